set_option maxRecDepth 100000
theorem va_X.lt {s : State} {H : Heap} {b L : Nat} {xs : Nat → Int32} (h : va_X b L xs s H) : b < H.size := by
  obtain ⟨scr, h1, -⟩ := h
  exact (Array.getElem?_eq_some_iff.mp h1).1
set_option maxHeartbeats 1000000 in
theorem blk_fill {w : pb_W} {p : Program} {l : Launch} {e : Env} {s : State} {m_ : MethodId} {below : List Frame} {meth : Method} {c : Code} {Q : State → Prop} {b0 L : Nat} {xs : Nat → Int32} (C : pb_C w p s m_ meth c #[.ref b0] cL_law 9 RX0 meth.name ret) (hN : pb_Nc s) {H : Heap} (hG : pb_G w s H) (hX : va_X b0 L xs s H) (hb0 : b0 < w.2.2.2) (i : Nat) (hi : i + 6 ≤ L) (hL : L ≤ 144) (bO sl o oL oD : Nat) (S : mS) (hLI : LWI w H bO sl o oL oD S)  (hst : StepI w l yX0_fill cX0_fill 8 [(0, 16, 19, 13), (0, 16, 23, 15)] yX3_fill cX3_fill 8 .int  [.ref bO, .int (iZ (xz xs (i + 1))), .int (iZ (xz xs (i + 2))), .int (iZ (xz xs (i + 3))), .int (iZ (xz xs (i + 4))), .int (iZ (xz xs (i + 5))), .ref oL] [.ref o, .int (iZ (xz xs (i + 1))), .int (iZ (xz xs (i + 2))), .int (iZ (xz xs (i + 3))), .int (iZ (xz xs (i + 4))), .int (iZ (xz xs (i + 5)))] H bO sl o oL oD) (bc bs : Nat) (ls : Array Slot) (hl : lv_has ls 9 [(5, .int (iZ ((i : Nat) : Int))), (0, .ref b0), (1, .ref bO), (2, .ref o), (3, .ref oL), (4, .ref oD)]) (kk : ∀ (H3 : Heap) (S3 : mS) (ls : Array Slot), pb_G w s H3 → va_X b0 L xs s H3 → LWI w H3 bO sl o oL oD S3 → lv_has ls 9 [(5, .int (iZ ((i : Nat) : Int))), (0, .ref b0), (1, .ref bO), (2, .ref o), (3, .ref oL), (4, .ref oD)] → pb_V w.2.2.2 p l e room_1 s m_ #[.ref b0] below meth c H3 bc bs Q (F0 m_ 3538 ls [])) : pb_V w.2.2.2 p l e room_1 s m_ #[.ref b0] below meth c H (bc + 49000) (bs + 228000) Q (F0 m_ 252 ls []) := by
  obtain ⟨mc, ms, dd, postW, postX, hmc, hms, hdd, hW, h2, h3⟩ := hst
  refine pb_aload_n C dL_law_252 rfl (lv_at hl 2 rfl) ?_
  refine pb_aload_n C dL_law_253 rfl (lv_at hl 1 rfl) ?_
  refine pb_iload C dL_law_254 (lv_at hl 0 rfl) ?_
  refine pb_ic C dL_law_256 ?_
  refine pb_iadd C dL_law_257 ?_
  refine pb_sldN C hX (i := (i + 1)) (by omega) dL_law_258 ?_
  refine pb_aload_n C dL_law_259 rfl (lv_at hl 1 rfl) ?_
  refine pb_iload C dL_law_260 (lv_at hl 0 rfl) ?_
  refine pb_ic C dL_law_262 ?_
  refine pb_iadd C dL_law_263 ?_
  refine pb_sldN C hX (i := (i + 2)) (by omega) dL_law_264 ?_
  refine pb_aload_n C dL_law_265 rfl (lv_at hl 1 rfl) ?_
  refine pb_iload C dL_law_266 (lv_at hl 0 rfl) ?_
  refine pb_ic C dL_law_268 ?_
  refine pb_iadd C dL_law_269 ?_
  refine pb_sldN C hX (i := (i + 3)) (by omega) dL_law_270 ?_
  refine pb_aload_n C dL_law_271 rfl (lv_at hl 1 rfl) ?_
  refine pb_iload C dL_law_272 (lv_at hl 0 rfl) ?_
  refine pb_ic C dL_law_274 ?_
  refine pb_iadd C dL_law_275 ?_
  refine pb_sldN C hX (i := (i + 4)) (by omega) dL_law_276 ?_
  refine pb_aload_n C dL_law_277 rfl (lv_at hl 1 rfl) ?_
  refine pb_iload C dL_law_278 (lv_at hl 0 rfl) ?_
  refine pb_ic C dL_law_280 ?_
  refine pb_iadd C dL_law_281 ?_
  refine pb_sldN C hX (i := (i + 5)) (by omega) dL_law_282 ?_
  refine pb_aload_n C dL_law_283 rfl (lv_at hl 4 rfl) ?_
  refine pb_go_i (bc' := bc + 49000 - mc) (bs' := bs + 228000 - ms) (pb_runSW (rest := []) C hG hN hW (lw_SW q238 q239 q50 q240) hdX0_fill rfl hl.1 rfl (Nat.le_of_ble_eq_true rfl) ⟨(Nat.le_of_ble_eq_true rfl), (Nat.le_of_ble_eq_true rfl)⟩ dL_law_284) (by omega) (by omega) (fun k_ H2 hp2 => ?_)
  obtain ⟨f2, hkr, ⟨fsO, hOo⟩, hM3⟩ := h2 _ _ hp2
  have hG := hG.kept f2
  have hX := hX.kept (f2.2 _ (by have := hX.lt; omega) hb0)
  refine pb_istore C dL_law_287 hl (by decide) rfl fun ls hl => ?_
  have hl : lv_has ls 9 [(6, .int (iZ (k_))), (5, .int (iZ (((i : Nat) : Int)))), (0, .ref (b0)), (1, .ref (bO)), (2, .ref (o)), (3, .ref (oL)), (4, .ref (oD))] := hl
  refine pb_aload_n C dL_law_289 rfl (lv_at hl 4 rfl) ?_
  refine pb_aload_n C dL_law_290 rfl (lv_at hl 2 rfl) ?_
  refine pb_iload C dL_law_291 (lv_at hl 1 rfl) ?_
  refine pb_ic C dL_law_293 ?_
  refine pb_iadd C dL_law_294 ?_
  refine pb_sldN C hX (i := (i + 1)) (by omega) dL_law_295 ?_
  refine pb_aload_n C dL_law_296 rfl (lv_at hl 2 rfl) ?_
  refine pb_iload C dL_law_297 (lv_at hl 1 rfl) ?_
  refine pb_ic C dL_law_299 ?_
  refine pb_iadd C dL_law_300 ?_
  refine pb_sldN C hX (i := (i + 2)) (by omega) dL_law_301 ?_
  refine pb_aload_n C dL_law_302 rfl (lv_at hl 2 rfl) ?_
  refine pb_iload C dL_law_303 (lv_at hl 1 rfl) ?_
  refine pb_ic C dL_law_305 ?_
  refine pb_iadd C dL_law_306 ?_
  refine pb_sldN C hX (i := (i + 3)) (by omega) dL_law_307 ?_
  refine pb_aload_n C dL_law_308 rfl (lv_at hl 2 rfl) ?_
  refine pb_iload C dL_law_309 (lv_at hl 1 rfl) ?_
  refine pb_ic C dL_law_311 ?_
  refine pb_iadd C dL_law_312 ?_
  refine pb_sldN C hX (i := (i + 4)) (by omega) dL_law_313 ?_
  refine pb_aload_n C dL_law_314 rfl (lv_at hl 2 rfl) ?_
  refine pb_iload C dL_law_315 (lv_at hl 1 rfl) ?_
  refine pb_ic C dL_law_317 ?_
  refine pb_iadd C dL_law_318 ?_
  refine pb_sldN C hX (i := (i + 5)) (by omega) dL_law_319 ?_
  refine pb_go_i (bc' := (bc + 49000 - mc)) (bs' := (bs + 228000 - ms)) (pb_runV (rest := []) C hG (hM3) hOo (ci := 2) rfl (lw_V q1790 q1791 q1792 q60 q1793) ⟨rfl, hdX3_fill⟩ rfl hl.1 rfl (Nat.le_of_ble_eq_true rfl) ⟨show dd + 1 ≤ 27 from by omega, show 8 + (8 + 11) + 64 * dd ≤ 11162 from by omega⟩ dL_law_320) (by omega) (by omega) (fun z_ H3 hp_ => ?_)
  obtain ⟨f3, S9, hMW9, hk9, hv9, hb9, hLI⟩ := h3 _ _ _ _ hp2 hp_
  have hG := hG.kept f3
  have hX := hX.kept (f3.2 _ (by have := hX.lt; omega) hb0)
  obtain ⟨fsP, hOp⟩ := hMW9.o
  refine pb_istore C dL_law_323 hl (by decide) rfl fun ls hl => ?_
  have hl : lv_has ls 9 [(7, .int (iZ (z_))), (6, .int (iZ (k_))), (5, .int (iZ (((i : Nat) : Int)))), (0, .ref (b0)), (1, .ref (bO)), (2, .ref (o)), (3, .ref (oL)), (4, .ref (oD))] := hl
  refine pb_aload_n C dL_law_325 rfl (lv_at hl 5 rfl) ?_
  refine pb_go_x (bc' := (bc + 49000 - mc)) (bs' := (bs + 228000 - ms)) (pb_runV (rest := []) C hG (met_X3_thrown l o S9 hMW9) hOp (ci := 2) rfl (lw_V q1786 q1787 q1788 q60 q1789) ⟨rfl, hdX3_thrown⟩ rfl hl.1 rfl (Nat.le_of_ble_eq_true rfl) ⟨(Nat.le_of_ble_eq_true rfl), (Nat.le_of_ble_eq_true rfl)⟩ dL_law_326) (by omega) (by omega) ?_
  refine pb_eq (g2 := F0 m_ 329 ls [.int (iZ (k_))]) (congrArg (fun z9 => F0 m_ 329 ls [.int (iZ z9)]) (show (S9.1 0) = k_ from hk9)) ?_
  refine pb_iload C dL_law_329 (lv_at hl 1 rfl) ?_
  refine pb_icmp_eq C dL_law_331 (x := k_) (y := k_) (tgt := 336) (by decide) (by omega) (by omega) (fun c331_ => ?_) (fun c331_ => ?_)
  · refine pb_iload C dL_law_336 (lv_at hl 1 rfl) ?_
    refine pb_if_ne C dL_law_338 (x := k_) (tgt := 353) (by decide) (by omega) (fun c338_ => ?_) (fun c338_ => ?_)
    · refine pb_goto C dL_law_353 (tgt := 3538) (by decide) ?_
      exact pb_V.mono (by omega) (by omega) (kk H3 S9 ls hG hX hLI (lv_sub hl [2, 3, 4, 5, 6, 7] rfl))
    · obtain ⟨hzr, g9, hA9⟩ := hv9 c338_
      refine pb_aload_n C dL_law_341 rfl (lv_at hl 6 rfl) ?_
      refine pb_ic C dL_law_342 ?_
      refine pb_lald C hA9.b (i := 0) (v := .long (lZ (z_))) (by omega) (if_pos rfl) dL_law_343 ?_
      refine pb_iload C dL_law_344 (lv_at hl 0 rfl) ?_
      refine pb_i2l C dL_law_346 (x := z_) (by omega) ?_
      refine pb_lcmpE C (x := lZ z_) dL_law_347 ?_
      refine pb_if_eq C dL_law_348 (x := 0) (tgt := 353) (by decide) (by omega) (fun c348_ => ?_) (fun c348_ => ?_)
      · refine pb_goto C dL_law_353 (tgt := 3538) (by decide) ?_
        exact pb_V.mono (by omega) (by omega) (kk H3 S9 ls hG hX hLI (lv_sub hl [2, 3, 4, 5, 6, 7] rfl))
      · exact absurd c348_ (by decide)
  · exact absurd rfl c331_

set_option maxHeartbeats 1000000 in
theorem blk_erase {w : pb_W} {p : Program} {l : Launch} {e : Env} {s : State} {m_ : MethodId} {below : List Frame} {meth : Method} {c : Code} {Q : State → Prop} {b0 L : Nat} {xs : Nat → Int32} (C : pb_C w p s m_ meth c #[.ref b0] cL_law 9 RX0 meth.name ret) (hN : pb_Nc s) {H : Heap} (hG : pb_G w s H) (hX : va_X b0 L xs s H) (hb0 : b0 < w.2.2.2) (i : Nat) (hi : i + 6 ≤ L) (hL : L ≤ 144) (bO sl o oL oD : Nat) (S : mS) (hLI : LWI w H bO sl o oL oD S)  (hst : StepI w l yX0_erase cX0_erase 8 [(0, 16, 19, 13), (0, 16, 23, 15)] yX3_erase cX3_erase 8 .int  [.ref bO, .int (iZ (xz xs (i + 1))), .int (iZ (xz xs (i + 2))), .int (iZ (xz xs (i + 3))), .int (iZ (xz xs (i + 4))), .int (iZ (xz xs (i + 5))), .ref oL] [.ref o, .int (iZ (xz xs (i + 1))), .int (iZ (xz xs (i + 2))), .int (iZ (xz xs (i + 3))), .int (iZ (xz xs (i + 4))), .int (iZ (xz xs (i + 5)))] H bO sl o oL oD) (bc bs : Nat) (ls : Array Slot) (hl : lv_has ls 9 [(5, .int (iZ ((i : Nat) : Int))), (0, .ref b0), (1, .ref bO), (2, .ref o), (3, .ref oL), (4, .ref oD)]) (kk : ∀ (H3 : Heap) (S3 : mS) (ls : Array Slot), pb_G w s H3 → va_X b0 L xs s H3 → LWI w H3 bO sl o oL oD S3 → lv_has ls 9 [(5, .int (iZ ((i : Nat) : Int))), (0, .ref b0), (1, .ref bO), (2, .ref o), (3, .ref oL), (4, .ref oD)] → pb_V w.2.2.2 p l e room_1 s m_ #[.ref b0] below meth c H3 bc bs Q (F0 m_ 3538 ls [])) : pb_V w.2.2.2 p l e room_1 s m_ #[.ref b0] below meth c H (bc + 49000) (bs + 228000) Q (F0 m_ 356 ls []) := by
  obtain ⟨mc, ms, dd, postW, postX, hmc, hms, hdd, hW, h2, h3⟩ := hst
  refine pb_aload_n C dL_law_356 rfl (lv_at hl 2 rfl) ?_
  refine pb_aload_n C dL_law_357 rfl (lv_at hl 1 rfl) ?_
  refine pb_iload C dL_law_358 (lv_at hl 0 rfl) ?_
  refine pb_ic C dL_law_360 ?_
  refine pb_iadd C dL_law_361 ?_
  refine pb_sldN C hX (i := (i + 1)) (by omega) dL_law_362 ?_
  refine pb_aload_n C dL_law_363 rfl (lv_at hl 1 rfl) ?_
  refine pb_iload C dL_law_364 (lv_at hl 0 rfl) ?_
  refine pb_ic C dL_law_366 ?_
  refine pb_iadd C dL_law_367 ?_
  refine pb_sldN C hX (i := (i + 2)) (by omega) dL_law_368 ?_
  refine pb_aload_n C dL_law_369 rfl (lv_at hl 1 rfl) ?_
  refine pb_iload C dL_law_370 (lv_at hl 0 rfl) ?_
  refine pb_ic C dL_law_372 ?_
  refine pb_iadd C dL_law_373 ?_
  refine pb_sldN C hX (i := (i + 3)) (by omega) dL_law_374 ?_
  refine pb_aload_n C dL_law_375 rfl (lv_at hl 1 rfl) ?_
  refine pb_iload C dL_law_376 (lv_at hl 0 rfl) ?_
  refine pb_ic C dL_law_378 ?_
  refine pb_iadd C dL_law_379 ?_
  refine pb_sldN C hX (i := (i + 4)) (by omega) dL_law_380 ?_
  refine pb_aload_n C dL_law_381 rfl (lv_at hl 1 rfl) ?_
  refine pb_iload C dL_law_382 (lv_at hl 0 rfl) ?_
  refine pb_ic C dL_law_384 ?_
  refine pb_iadd C dL_law_385 ?_
  refine pb_sldN C hX (i := (i + 5)) (by omega) dL_law_386 ?_
  refine pb_aload_n C dL_law_387 rfl (lv_at hl 4 rfl) ?_
  refine pb_go_i (bc' := bc + 49000 - mc) (bs' := bs + 228000 - ms) (pb_runSW (rest := []) C hG hN hW (lw_SW q729 q730 q50 q731) hdX0_erase rfl hl.1 rfl (Nat.le_of_ble_eq_true rfl) ⟨(Nat.le_of_ble_eq_true rfl), (Nat.le_of_ble_eq_true rfl)⟩ dL_law_388) (by omega) (by omega) (fun k_ H2 hp2 => ?_)
  obtain ⟨f2, hkr, ⟨fsO, hOo⟩, hM3⟩ := h2 _ _ hp2
  have hG := hG.kept f2
  have hX := hX.kept (f2.2 _ (by have := hX.lt; omega) hb0)
  refine pb_istore C dL_law_391 hl (by decide) rfl fun ls hl => ?_
  have hl : lv_has ls 9 [(6, .int (iZ (k_))), (5, .int (iZ (((i : Nat) : Int)))), (0, .ref (b0)), (1, .ref (bO)), (2, .ref (o)), (3, .ref (oL)), (4, .ref (oD))] := hl
  refine pb_aload_n C dL_law_393 rfl (lv_at hl 4 rfl) ?_
  refine pb_aload_n C dL_law_394 rfl (lv_at hl 2 rfl) ?_
  refine pb_iload C dL_law_395 (lv_at hl 1 rfl) ?_
  refine pb_ic C dL_law_397 ?_
  refine pb_iadd C dL_law_398 ?_
  refine pb_sldN C hX (i := (i + 1)) (by omega) dL_law_399 ?_
  refine pb_aload_n C dL_law_400 rfl (lv_at hl 2 rfl) ?_
  refine pb_iload C dL_law_401 (lv_at hl 1 rfl) ?_
  refine pb_ic C dL_law_403 ?_
  refine pb_iadd C dL_law_404 ?_
  refine pb_sldN C hX (i := (i + 2)) (by omega) dL_law_405 ?_
  refine pb_aload_n C dL_law_406 rfl (lv_at hl 2 rfl) ?_
  refine pb_iload C dL_law_407 (lv_at hl 1 rfl) ?_
  refine pb_ic C dL_law_409 ?_
  refine pb_iadd C dL_law_410 ?_
  refine pb_sldN C hX (i := (i + 3)) (by omega) dL_law_411 ?_
  refine pb_aload_n C dL_law_412 rfl (lv_at hl 2 rfl) ?_
  refine pb_iload C dL_law_413 (lv_at hl 1 rfl) ?_
  refine pb_ic C dL_law_415 ?_
  refine pb_iadd C dL_law_416 ?_
  refine pb_sldN C hX (i := (i + 4)) (by omega) dL_law_417 ?_
  refine pb_aload_n C dL_law_418 rfl (lv_at hl 2 rfl) ?_
  refine pb_iload C dL_law_419 (lv_at hl 1 rfl) ?_
  refine pb_ic C dL_law_421 ?_
  refine pb_iadd C dL_law_422 ?_
  refine pb_sldN C hX (i := (i + 5)) (by omega) dL_law_423 ?_
  refine pb_go_i (bc' := (bc + 49000 - mc)) (bs' := (bs + 228000 - ms)) (pb_runV (rest := []) C hG (hM3) hOo (ci := 2) rfl (lw_V q1817 q1818 q1819 q60 q1820) ⟨rfl, hdX3_erase⟩ rfl hl.1 rfl (Nat.le_of_ble_eq_true rfl) ⟨show dd + 1 ≤ 27 from by omega, show 8 + (8 + 11) + 64 * dd ≤ 11162 from by omega⟩ dL_law_424) (by omega) (by omega) (fun z_ H3 hp_ => ?_)
  obtain ⟨f3, S9, hMW9, hk9, hv9, hb9, hLI⟩ := h3 _ _ _ _ hp2 hp_
  have hG := hG.kept f3
  have hX := hX.kept (f3.2 _ (by have := hX.lt; omega) hb0)
  obtain ⟨fsP, hOp⟩ := hMW9.o
  refine pb_istore C dL_law_427 hl (by decide) rfl fun ls hl => ?_
  have hl : lv_has ls 9 [(7, .int (iZ (z_))), (6, .int (iZ (k_))), (5, .int (iZ (((i : Nat) : Int)))), (0, .ref (b0)), (1, .ref (bO)), (2, .ref (o)), (3, .ref (oL)), (4, .ref (oD))] := hl
  refine pb_aload_n C dL_law_429 rfl (lv_at hl 5 rfl) ?_
  refine pb_go_x (bc' := (bc + 49000 - mc)) (bs' := (bs + 228000 - ms)) (pb_runV (rest := []) C hG (met_X3_thrown l o S9 hMW9) hOp (ci := 2) rfl (lw_V q1786 q1787 q1788 q60 q1789) ⟨rfl, hdX3_thrown⟩ rfl hl.1 rfl (Nat.le_of_ble_eq_true rfl) ⟨(Nat.le_of_ble_eq_true rfl), (Nat.le_of_ble_eq_true rfl)⟩ dL_law_430) (by omega) (by omega) ?_
  refine pb_eq (g2 := F0 m_ 433 ls [.int (iZ (k_))]) (congrArg (fun z9 => F0 m_ 433 ls [.int (iZ z9)]) (show (S9.1 0) = k_ from hk9)) ?_
  refine pb_iload C dL_law_433 (lv_at hl 1 rfl) ?_
  refine pb_icmp_eq C dL_law_435 (x := k_) (y := k_) (tgt := 440) (by decide) (by omega) (by omega) (fun c435_ => ?_) (fun c435_ => ?_)
  · refine pb_iload C dL_law_440 (lv_at hl 1 rfl) ?_
    refine pb_if_ne C dL_law_442 (x := k_) (tgt := 457) (by decide) (by omega) (fun c442_ => ?_) (fun c442_ => ?_)
    · refine pb_goto C dL_law_457 (tgt := 3538) (by decide) ?_
      exact pb_V.mono (by omega) (by omega) (kk H3 S9 ls hG hX hLI (lv_sub hl [2, 3, 4, 5, 6, 7] rfl))
    · obtain ⟨hzr, g9, hA9⟩ := hv9 c442_
      refine pb_aload_n C dL_law_445 rfl (lv_at hl 6 rfl) ?_
      refine pb_ic C dL_law_446 ?_
      refine pb_lald C hA9.b (i := 0) (v := .long (lZ (z_))) (by omega) (if_pos rfl) dL_law_447 ?_
      refine pb_iload C dL_law_448 (lv_at hl 0 rfl) ?_
      refine pb_i2l C dL_law_450 (x := z_) (by omega) ?_
      refine pb_lcmpE C (x := lZ z_) dL_law_451 ?_
      refine pb_if_eq C dL_law_452 (x := 0) (tgt := 457) (by decide) (by omega) (fun c452_ => ?_) (fun c452_ => ?_)
      · refine pb_goto C dL_law_457 (tgt := 3538) (by decide) ?_
        exact pb_V.mono (by omega) (by omega) (kk H3 S9 ls hG hX hLI (lv_sub hl [2, 3, 4, 5, 6, 7] rfl))
      · exact absurd c452_ (by decide)
  · exact absurd rfl c435_

set_option maxHeartbeats 1000000 in
theorem blk_clear {w : pb_W} {p : Program} {l : Launch} {e : Env} {s : State} {m_ : MethodId} {below : List Frame} {meth : Method} {c : Code} {Q : State → Prop} {b0 L : Nat} {xs : Nat → Int32} (C : pb_C w p s m_ meth c #[.ref b0] cL_law 9 RX0 meth.name ret) (hN : pb_Nc s) {H : Heap} (hG : pb_G w s H) (hX : va_X b0 L xs s H) (hb0 : b0 < w.2.2.2) (i : Nat) (hi : i + 6 ≤ L) (hL : L ≤ 144) (bO sl o oL oD : Nat) (S : mS) (hLI : LWI w H bO sl o oL oD S)  (hst : StepI w l yX0_clear cX0_clear 4 [(0, 9, 12, 13)] yX3_clear cX3_clear 4 .int  [.ref bO, .int (iZ (xz xs (i + 1))), .ref oL] [.ref o, .int (iZ (xz xs (i + 1)))] H bO sl o oL oD) (bc bs : Nat) (ls : Array Slot) (hl : lv_has ls 9 [(5, .int (iZ ((i : Nat) : Int))), (0, .ref b0), (1, .ref bO), (2, .ref o), (3, .ref oL), (4, .ref oD)]) (kk : ∀ (H3 : Heap) (S3 : mS) (ls : Array Slot), pb_G w s H3 → va_X b0 L xs s H3 → LWI w H3 bO sl o oL oD S3 → lv_has ls 9 [(5, .int (iZ ((i : Nat) : Int))), (0, .ref b0), (1, .ref bO), (2, .ref o), (3, .ref oL), (4, .ref oD)] → pb_V w.2.2.2 p l e room_1 s m_ #[.ref b0] below meth c H3 bc bs Q (F0 m_ 3538 ls [])) : pb_V w.2.2.2 p l e room_1 s m_ #[.ref b0] below meth c H (bc + 49000) (bs + 228000) Q (F0 m_ 460 ls []) := by
  obtain ⟨mc, ms, dd, postW, postX, hmc, hms, hdd, hW, h2, h3⟩ := hst
  refine pb_aload_n C dL_law_460 rfl (lv_at hl 2 rfl) ?_
  refine pb_aload_n C dL_law_461 rfl (lv_at hl 1 rfl) ?_
  refine pb_iload C dL_law_462 (lv_at hl 0 rfl) ?_
  refine pb_ic C dL_law_464 ?_
  refine pb_iadd C dL_law_465 ?_
  refine pb_sldN C hX (i := (i + 1)) (by omega) dL_law_466 ?_
  refine pb_aload_n C dL_law_467 rfl (lv_at hl 4 rfl) ?_
  refine pb_go_i (bc' := bc + 49000 - mc) (bs' := bs + 228000 - ms) (pb_runSW (rest := []) C hG hN hW (lw_SW q738 q739 q50 q740) hdX0_clear rfl hl.1 rfl (Nat.le_of_ble_eq_true rfl) ⟨(Nat.le_of_ble_eq_true rfl), (Nat.le_of_ble_eq_true rfl)⟩ dL_law_468) (by omega) (by omega) (fun k_ H2 hp2 => ?_)
  obtain ⟨f2, hkr, ⟨fsO, hOo⟩, hM3⟩ := h2 _ _ hp2
  have hG := hG.kept f2
  have hX := hX.kept (f2.2 _ (by have := hX.lt; omega) hb0)
  refine pb_istore C dL_law_471 hl (by decide) rfl fun ls hl => ?_
  have hl : lv_has ls 9 [(6, .int (iZ (k_))), (5, .int (iZ (((i : Nat) : Int)))), (0, .ref (b0)), (1, .ref (bO)), (2, .ref (o)), (3, .ref (oL)), (4, .ref (oD))] := hl
  refine pb_aload_n C dL_law_473 rfl (lv_at hl 4 rfl) ?_
  refine pb_aload_n C dL_law_474 rfl (lv_at hl 2 rfl) ?_
  refine pb_iload C dL_law_475 (lv_at hl 1 rfl) ?_
  refine pb_ic C dL_law_477 ?_
  refine pb_iadd C dL_law_478 ?_
  refine pb_sldN C hX (i := (i + 1)) (by omega) dL_law_479 ?_
  refine pb_go_i (bc' := (bc + 49000 - mc)) (bs' := (bs + 228000 - ms)) (pb_runV (rest := []) C hG (hM3) hOo (ci := 2) rfl (lw_V q1821 q1822 q1823 q60 q1824) ⟨rfl, hdX3_clear⟩ rfl hl.1 rfl (Nat.le_of_ble_eq_true rfl) ⟨show dd + 1 ≤ 27 from by omega, show 8 + (4 + 11) + 64 * dd ≤ 11162 from by omega⟩ dL_law_480) (by omega) (by omega) (fun z_ H3 hp_ => ?_)
  obtain ⟨f3, S9, hMW9, hk9, hv9, hb9, hLI⟩ := h3 _ _ _ _ hp2 hp_
  have hG := hG.kept f3
  have hX := hX.kept (f3.2 _ (by have := hX.lt; omega) hb0)
  obtain ⟨fsP, hOp⟩ := hMW9.o
  refine pb_istore C dL_law_483 hl (by decide) rfl fun ls hl => ?_
  have hl : lv_has ls 9 [(7, .int (iZ (z_))), (6, .int (iZ (k_))), (5, .int (iZ (((i : Nat) : Int)))), (0, .ref (b0)), (1, .ref (bO)), (2, .ref (o)), (3, .ref (oL)), (4, .ref (oD))] := hl
  refine pb_aload_n C dL_law_485 rfl (lv_at hl 5 rfl) ?_
  refine pb_go_x (bc' := (bc + 49000 - mc)) (bs' := (bs + 228000 - ms)) (pb_runV (rest := []) C hG (met_X3_thrown l o S9 hMW9) hOp (ci := 2) rfl (lw_V q1786 q1787 q1788 q60 q1789) ⟨rfl, hdX3_thrown⟩ rfl hl.1 rfl (Nat.le_of_ble_eq_true rfl) ⟨(Nat.le_of_ble_eq_true rfl), (Nat.le_of_ble_eq_true rfl)⟩ dL_law_486) (by omega) (by omega) ?_
  refine pb_eq (g2 := F0 m_ 489 ls [.int (iZ (k_))]) (congrArg (fun z9 => F0 m_ 489 ls [.int (iZ z9)]) (show (S9.1 0) = k_ from hk9)) ?_
  refine pb_iload C dL_law_489 (lv_at hl 1 rfl) ?_
  refine pb_icmp_eq C dL_law_491 (x := k_) (y := k_) (tgt := 496) (by decide) (by omega) (by omega) (fun c491_ => ?_) (fun c491_ => ?_)
  · refine pb_iload C dL_law_496 (lv_at hl 1 rfl) ?_
    refine pb_if_ne C dL_law_498 (x := k_) (tgt := 513) (by decide) (by omega) (fun c498_ => ?_) (fun c498_ => ?_)
    · refine pb_goto C dL_law_513 (tgt := 3538) (by decide) ?_
      exact pb_V.mono (by omega) (by omega) (kk H3 S9 ls hG hX hLI (lv_sub hl [2, 3, 4, 5, 6, 7] rfl))
    · obtain ⟨hzr, g9, hA9⟩ := hv9 c498_
      refine pb_aload_n C dL_law_501 rfl (lv_at hl 6 rfl) ?_
      refine pb_ic C dL_law_502 ?_
      refine pb_lald C hA9.b (i := 0) (v := .long (lZ (z_))) (by omega) (if_pos rfl) dL_law_503 ?_
      refine pb_iload C dL_law_504 (lv_at hl 0 rfl) ?_
      refine pb_i2l C dL_law_506 (x := z_) (by omega) ?_
      refine pb_lcmpE C (x := lZ z_) dL_law_507 ?_
      refine pb_if_eq C dL_law_508 (x := 0) (tgt := 513) (by decide) (by omega) (fun c508_ => ?_) (fun c508_ => ?_)
      · refine pb_goto C dL_law_513 (tgt := 3538) (by decide) ?_
        exact pb_V.mono (by omega) (by omega) (kk H3 S9 ls hG hX hLI (lv_sub hl [2, 3, 4, 5, 6, 7] rfl))
      · exact absurd c508_ (by decide)
  · exact absurd rfl c491_

set_option maxHeartbeats 1000000 in
theorem blk_moveTo {w : pb_W} {p : Program} {l : Launch} {e : Env} {s : State} {m_ : MethodId} {below : List Frame} {meth : Method} {c : Code} {Q : State → Prop} {b0 L : Nat} {xs : Nat → Int32} (C : pb_C w p s m_ meth c #[.ref b0] cL_law 9 RX0 meth.name ret) (hN : pb_Nc s) {H : Heap} (hG : pb_G w s H) (hX : va_X b0 L xs s H) (hb0 : b0 < w.2.2.2) (i : Nat) (hi : i + 6 ≤ L) (hL : L ≤ 144) (bO sl o oL oD : Nat) (S : mS) (hLI : LWI w H bO sl o oL oD S)  (hst : StepI w l yX0_moveTo cX0_moveTo 5 [(0, 10, 13, 15)] yX3_moveTo cX3_moveTo 3 .int  [.ref bO, .int (iZ (xz xs (i + 1))), .int (iZ (xz xs (i + 2))), .ref oL] [.ref o, .int (iZ (xz xs (i + 1))), .int (iZ (xz xs (i + 2)))] H bO sl o oL oD) (bc bs : Nat) (ls : Array Slot) (hl : lv_has ls 9 [(5, .int (iZ ((i : Nat) : Int))), (0, .ref b0), (1, .ref bO), (2, .ref o), (3, .ref oL), (4, .ref oD)]) (kk : ∀ (H3 : Heap) (S3 : mS) (ls : Array Slot), pb_G w s H3 → va_X b0 L xs s H3 → LWI w H3 bO sl o oL oD S3 → lv_has ls 9 [(5, .int (iZ ((i : Nat) : Int))), (0, .ref b0), (1, .ref bO), (2, .ref o), (3, .ref oL), (4, .ref oD)] → pb_V w.2.2.2 p l e room_1 s m_ #[.ref b0] below meth c H3 bc bs Q (F0 m_ 3538 ls [])) : pb_V w.2.2.2 p l e room_1 s m_ #[.ref b0] below meth c H (bc + 49000) (bs + 228000) Q (F0 m_ 516 ls []) := by
  obtain ⟨mc, ms, dd, postW, postX, hmc, hms, hdd, hW, h2, h3⟩ := hst
  refine pb_aload_n C dL_law_516 rfl (lv_at hl 2 rfl) ?_
  refine pb_aload_n C dL_law_517 rfl (lv_at hl 1 rfl) ?_
  refine pb_iload C dL_law_518 (lv_at hl 0 rfl) ?_
  refine pb_ic C dL_law_520 ?_
  refine pb_iadd C dL_law_521 ?_
  refine pb_sldN C hX (i := (i + 1)) (by omega) dL_law_522 ?_
  refine pb_aload_n C dL_law_523 rfl (lv_at hl 1 rfl) ?_
  refine pb_iload C dL_law_524 (lv_at hl 0 rfl) ?_
  refine pb_ic C dL_law_526 ?_
  refine pb_iadd C dL_law_527 ?_
  refine pb_sldN C hX (i := (i + 2)) (by omega) dL_law_528 ?_
  refine pb_aload_n C dL_law_529 rfl (lv_at hl 4 rfl) ?_
  refine pb_go_i (bc' := bc + 49000 - mc) (bs' := bs + 228000 - ms) (pb_runSW (rest := []) C hG hN hW (lw_SW q745 q746 q50 q747) hdX0_moveTo rfl hl.1 rfl (Nat.le_of_ble_eq_true rfl) ⟨(Nat.le_of_ble_eq_true rfl), (Nat.le_of_ble_eq_true rfl)⟩ dL_law_530) (by omega) (by omega) (fun k_ H2 hp2 => ?_)
  obtain ⟨f2, hkr, ⟨fsO, hOo⟩, hM3⟩ := h2 _ _ hp2
  have hG := hG.kept f2
  have hX := hX.kept (f2.2 _ (by have := hX.lt; omega) hb0)
  refine pb_istore C dL_law_533 hl (by decide) rfl fun ls hl => ?_
  have hl : lv_has ls 9 [(6, .int (iZ (k_))), (5, .int (iZ (((i : Nat) : Int)))), (0, .ref (b0)), (1, .ref (bO)), (2, .ref (o)), (3, .ref (oL)), (4, .ref (oD))] := hl
  refine pb_aload_n C dL_law_535 rfl (lv_at hl 4 rfl) ?_
  refine pb_aload_n C dL_law_536 rfl (lv_at hl 2 rfl) ?_
  refine pb_iload C dL_law_537 (lv_at hl 1 rfl) ?_
  refine pb_ic C dL_law_539 ?_
  refine pb_iadd C dL_law_540 ?_
  refine pb_sldN C hX (i := (i + 1)) (by omega) dL_law_541 ?_
  refine pb_aload_n C dL_law_542 rfl (lv_at hl 2 rfl) ?_
  refine pb_iload C dL_law_543 (lv_at hl 1 rfl) ?_
  refine pb_ic C dL_law_545 ?_
  refine pb_iadd C dL_law_546 ?_
  refine pb_sldN C hX (i := (i + 2)) (by omega) dL_law_547 ?_
  refine pb_go_i (bc' := (bc + 49000 - mc)) (bs' := (bs + 228000 - ms)) (pb_runV (rest := []) C hG (hM3) hOo (ci := 2) rfl (lw_V q1825 q1826 q1827 q60 q1828) ⟨rfl, hdX3_moveTo⟩ rfl hl.1 rfl (Nat.le_of_ble_eq_true rfl) ⟨show dd + 1 ≤ 27 from by omega, show 8 + (3 + 11) + 64 * dd ≤ 11162 from by omega⟩ dL_law_548) (by omega) (by omega) (fun z_ H3 hp_ => ?_)
  obtain ⟨f3, S9, hMW9, hk9, hv9, hb9, hLI⟩ := h3 _ _ _ _ hp2 hp_
  have hG := hG.kept f3
  have hX := hX.kept (f3.2 _ (by have := hX.lt; omega) hb0)
  obtain ⟨fsP, hOp⟩ := hMW9.o
  refine pb_istore C dL_law_551 hl (by decide) rfl fun ls hl => ?_
  have hl : lv_has ls 9 [(7, .int (iZ (z_))), (6, .int (iZ (k_))), (5, .int (iZ (((i : Nat) : Int)))), (0, .ref (b0)), (1, .ref (bO)), (2, .ref (o)), (3, .ref (oL)), (4, .ref (oD))] := hl
  refine pb_aload_n C dL_law_553 rfl (lv_at hl 5 rfl) ?_
  refine pb_go_x (bc' := (bc + 49000 - mc)) (bs' := (bs + 228000 - ms)) (pb_runV (rest := []) C hG (met_X3_thrown l o S9 hMW9) hOp (ci := 2) rfl (lw_V q1786 q1787 q1788 q60 q1789) ⟨rfl, hdX3_thrown⟩ rfl hl.1 rfl (Nat.le_of_ble_eq_true rfl) ⟨(Nat.le_of_ble_eq_true rfl), (Nat.le_of_ble_eq_true rfl)⟩ dL_law_554) (by omega) (by omega) ?_
  refine pb_eq (g2 := F0 m_ 557 ls [.int (iZ (k_))]) (congrArg (fun z9 => F0 m_ 557 ls [.int (iZ z9)]) (show (S9.1 0) = k_ from hk9)) ?_
  refine pb_iload C dL_law_557 (lv_at hl 1 rfl) ?_
  refine pb_icmp_eq C dL_law_559 (x := k_) (y := k_) (tgt := 564) (by decide) (by omega) (by omega) (fun c559_ => ?_) (fun c559_ => ?_)
  · refine pb_iload C dL_law_564 (lv_at hl 1 rfl) ?_
    refine pb_if_ne C dL_law_566 (x := k_) (tgt := 581) (by decide) (by omega) (fun c566_ => ?_) (fun c566_ => ?_)
    · refine pb_goto C dL_law_581 (tgt := 3538) (by decide) ?_
      exact pb_V.mono (by omega) (by omega) (kk H3 S9 ls hG hX hLI (lv_sub hl [2, 3, 4, 5, 6, 7] rfl))
    · obtain ⟨hzr, g9, hA9⟩ := hv9 c566_
      refine pb_aload_n C dL_law_569 rfl (lv_at hl 6 rfl) ?_
      refine pb_ic C dL_law_570 ?_
      refine pb_lald C hA9.b (i := 0) (v := .long (lZ (z_))) (by omega) (if_pos rfl) dL_law_571 ?_
      refine pb_iload C dL_law_572 (lv_at hl 0 rfl) ?_
      refine pb_i2l C dL_law_574 (x := z_) (by omega) ?_
      refine pb_lcmpE C (x := lZ z_) dL_law_575 ?_
      refine pb_if_eq C dL_law_576 (x := 0) (tgt := 581) (by decide) (by omega) (fun c576_ => ?_) (fun c576_ => ?_)
      · refine pb_goto C dL_law_581 (tgt := 3538) (by decide) ?_
        exact pb_V.mono (by omega) (by omega) (kk H3 S9 ls hG hX hLI (lv_sub hl [2, 3, 4, 5, 6, 7] rfl))
      · exact absurd c576_ (by decide)
  · exact absurd rfl c559_

set_option maxHeartbeats 1000000 in
theorem blk_lineTo {w : pb_W} {p : Program} {l : Launch} {e : Env} {s : State} {m_ : MethodId} {below : List Frame} {meth : Method} {c : Code} {Q : State → Prop} {b0 L : Nat} {xs : Nat → Int32} (C : pb_C w p s m_ meth c #[.ref b0] cL_law 9 RX0 meth.name ret) (hN : pb_Nc s) {H : Heap} (hG : pb_G w s H) (hX : va_X b0 L xs s H) (hb0 : b0 < w.2.2.2) (i : Nat) (hi : i + 6 ≤ L) (hL : L ≤ 144) (bO sl o oL oD : Nat) (S : mS) (hLI : LWI w H bO sl o oL oD S)  (hst : StepI w l yX0_lineTo cX0_lineTo 5 [(0, 10, 13, 31), (0, 10, 17, 15)] yX3_lineTo cX3_lineTo 3 .int  [.ref bO, .int (iZ (xz xs (i + 1))), .int (iZ (xz xs (i + 2))), .ref oL] [.ref o, .int (iZ (xz xs (i + 1))), .int (iZ (xz xs (i + 2)))] H bO sl o oL oD) (bc bs : Nat) (ls : Array Slot) (hl : lv_has ls 9 [(5, .int (iZ ((i : Nat) : Int))), (0, .ref b0), (1, .ref bO), (2, .ref o), (3, .ref oL), (4, .ref oD)]) (kk : ∀ (H3 : Heap) (S3 : mS) (ls : Array Slot), pb_G w s H3 → va_X b0 L xs s H3 → LWI w H3 bO sl o oL oD S3 → lv_has ls 9 [(5, .int (iZ ((i : Nat) : Int))), (0, .ref b0), (1, .ref bO), (2, .ref o), (3, .ref oL), (4, .ref oD)] → pb_V w.2.2.2 p l e room_1 s m_ #[.ref b0] below meth c H3 bc bs Q (F0 m_ 3538 ls [])) : pb_V w.2.2.2 p l e room_1 s m_ #[.ref b0] below meth c H (bc + 49000) (bs + 228000) Q (F0 m_ 584 ls []) := by
  obtain ⟨mc, ms, dd, postW, postX, hmc, hms, hdd, hW, h2, h3⟩ := hst
  refine pb_aload_n C dL_law_584 rfl (lv_at hl 2 rfl) ?_
  refine pb_aload_n C dL_law_585 rfl (lv_at hl 1 rfl) ?_
  refine pb_iload C dL_law_586 (lv_at hl 0 rfl) ?_
  refine pb_ic C dL_law_588 ?_
  refine pb_iadd C dL_law_589 ?_
  refine pb_sldN C hX (i := (i + 1)) (by omega) dL_law_590 ?_
  refine pb_aload_n C dL_law_591 rfl (lv_at hl 1 rfl) ?_
  refine pb_iload C dL_law_592 (lv_at hl 0 rfl) ?_
  refine pb_ic C dL_law_594 ?_
  refine pb_iadd C dL_law_595 ?_
  refine pb_sldN C hX (i := (i + 2)) (by omega) dL_law_596 ?_
  refine pb_aload_n C dL_law_597 rfl (lv_at hl 4 rfl) ?_
  refine pb_go_i (bc' := bc + 49000 - mc) (bs' := bs + 228000 - ms) (pb_runSW (rest := []) C hG hN hW (lw_SW q773 q774 q50 q775) hdX0_lineTo rfl hl.1 rfl (Nat.le_of_ble_eq_true rfl) ⟨(Nat.le_of_ble_eq_true rfl), (Nat.le_of_ble_eq_true rfl)⟩ dL_law_598) (by omega) (by omega) (fun k_ H2 hp2 => ?_)
  obtain ⟨f2, hkr, ⟨fsO, hOo⟩, hM3⟩ := h2 _ _ hp2
  have hG := hG.kept f2
  have hX := hX.kept (f2.2 _ (by have := hX.lt; omega) hb0)
  refine pb_istore C dL_law_601 hl (by decide) rfl fun ls hl => ?_
  have hl : lv_has ls 9 [(6, .int (iZ (k_))), (5, .int (iZ (((i : Nat) : Int)))), (0, .ref (b0)), (1, .ref (bO)), (2, .ref (o)), (3, .ref (oL)), (4, .ref (oD))] := hl
  refine pb_aload_n C dL_law_603 rfl (lv_at hl 4 rfl) ?_
  refine pb_aload_n C dL_law_604 rfl (lv_at hl 2 rfl) ?_
  refine pb_iload C dL_law_605 (lv_at hl 1 rfl) ?_
  refine pb_ic C dL_law_607 ?_
  refine pb_iadd C dL_law_608 ?_
  refine pb_sldN C hX (i := (i + 1)) (by omega) dL_law_609 ?_
  refine pb_aload_n C dL_law_610 rfl (lv_at hl 2 rfl) ?_
  refine pb_iload C dL_law_611 (lv_at hl 1 rfl) ?_
  refine pb_ic C dL_law_613 ?_
  refine pb_iadd C dL_law_614 ?_
  refine pb_sldN C hX (i := (i + 2)) (by omega) dL_law_615 ?_
  refine pb_go_i (bc' := (bc + 49000 - mc)) (bs' := (bs + 228000 - ms)) (pb_runV (rest := []) C hG (hM3) hOo (ci := 2) rfl (lw_V q1832 q1833 q1834 q60 q1835) ⟨rfl, hdX3_lineTo⟩ rfl hl.1 rfl (Nat.le_of_ble_eq_true rfl) ⟨show dd + 1 ≤ 27 from by omega, show 8 + (3 + 11) + 64 * dd ≤ 11162 from by omega⟩ dL_law_616) (by omega) (by omega) (fun z_ H3 hp_ => ?_)
  obtain ⟨f3, S9, hMW9, hk9, hv9, hb9, hLI⟩ := h3 _ _ _ _ hp2 hp_
  have hG := hG.kept f3
  have hX := hX.kept (f3.2 _ (by have := hX.lt; omega) hb0)
  obtain ⟨fsP, hOp⟩ := hMW9.o
  refine pb_istore C dL_law_619 hl (by decide) rfl fun ls hl => ?_
  have hl : lv_has ls 9 [(7, .int (iZ (z_))), (6, .int (iZ (k_))), (5, .int (iZ (((i : Nat) : Int)))), (0, .ref (b0)), (1, .ref (bO)), (2, .ref (o)), (3, .ref (oL)), (4, .ref (oD))] := hl
  refine pb_aload_n C dL_law_621 rfl (lv_at hl 5 rfl) ?_
  refine pb_go_x (bc' := (bc + 49000 - mc)) (bs' := (bs + 228000 - ms)) (pb_runV (rest := []) C hG (met_X3_thrown l o S9 hMW9) hOp (ci := 2) rfl (lw_V q1786 q1787 q1788 q60 q1789) ⟨rfl, hdX3_thrown⟩ rfl hl.1 rfl (Nat.le_of_ble_eq_true rfl) ⟨(Nat.le_of_ble_eq_true rfl), (Nat.le_of_ble_eq_true rfl)⟩ dL_law_622) (by omega) (by omega) ?_
  refine pb_eq (g2 := F0 m_ 625 ls [.int (iZ (k_))]) (congrArg (fun z9 => F0 m_ 625 ls [.int (iZ z9)]) (show (S9.1 0) = k_ from hk9)) ?_
  refine pb_iload C dL_law_625 (lv_at hl 1 rfl) ?_
  refine pb_icmp_eq C dL_law_627 (x := k_) (y := k_) (tgt := 632) (by decide) (by omega) (by omega) (fun c627_ => ?_) (fun c627_ => ?_)
  · refine pb_iload C dL_law_632 (lv_at hl 1 rfl) ?_
    refine pb_if_ne C dL_law_634 (x := k_) (tgt := 649) (by decide) (by omega) (fun c634_ => ?_) (fun c634_ => ?_)
    · refine pb_goto C dL_law_649 (tgt := 3538) (by decide) ?_
      exact pb_V.mono (by omega) (by omega) (kk H3 S9 ls hG hX hLI (lv_sub hl [2, 3, 4, 5, 6, 7] rfl))
    · obtain ⟨hzr, g9, hA9⟩ := hv9 c634_
      refine pb_aload_n C dL_law_637 rfl (lv_at hl 6 rfl) ?_
      refine pb_ic C dL_law_638 ?_
      refine pb_lald C hA9.b (i := 0) (v := .long (lZ (z_))) (by omega) (if_pos rfl) dL_law_639 ?_
      refine pb_iload C dL_law_640 (lv_at hl 0 rfl) ?_
      refine pb_i2l C dL_law_642 (x := z_) (by omega) ?_
      refine pb_lcmpE C (x := lZ z_) dL_law_643 ?_
      refine pb_if_eq C dL_law_644 (x := 0) (tgt := 649) (by decide) (by omega) (fun c644_ => ?_) (fun c644_ => ?_)
      · refine pb_goto C dL_law_649 (tgt := 3538) (by decide) ?_
        exact pb_V.mono (by omega) (by omega) (kk H3 S9 ls hG hX hLI (lv_sub hl [2, 3, 4, 5, 6, 7] rfl))
      · exact absurd c644_ (by decide)
  · exact absurd rfl c627_

set_option maxHeartbeats 1000000 in
theorem blk_closePath_0 {w : pb_W} {p : Program} {l : Launch} {e : Env} {s : State} {m_ : MethodId} {below : List Frame} {meth : Method} {c : Code} {Q : State → Prop} {b0 L : Nat} {xs : Nat → Int32} (C : pb_C w p s m_ meth c #[.ref b0] cL_law 9 RX0 meth.name ret) (hN : pb_Nc s) {H : Heap} (hG : pb_G w s H) (hX : va_X b0 L xs s H) (hb0 : b0 < w.2.2.2) (i : Nat) (hi : i + 6 ≤ L) (hL : L ≤ 144) (bO sl o oL oD : Nat) (S : mS) (hLI : LWI w H bO sl o oL oD S) (hz : xz xs (i + 2) = 0) (hst : StepI w l yX0_closePath cX0_closePath 5 [(0, 10, 13, 13), (0, 10, 17, 31)] yX3_closePath cX3_closePath 6 .int  [.ref bO, .int (iZ (xz xs (i + 1))), .int (iZ (0)), .ref oL] [.ref o, .int (iZ (xz xs (i + 1))), .int (iZ (0))] H bO sl o oL oD) (bc bs : Nat) (ls : Array Slot) (hl : lv_has ls 9 [(5, .int (iZ ((i : Nat) : Int))), (0, .ref b0), (1, .ref bO), (2, .ref o), (3, .ref oL), (4, .ref oD)]) (kk : ∀ (H3 : Heap) (S3 : mS) (ls : Array Slot), pb_G w s H3 → va_X b0 L xs s H3 → LWI w H3 bO sl o oL oD S3 → lv_has ls 9 [(5, .int (iZ ((i : Nat) : Int))), (0, .ref b0), (1, .ref bO), (2, .ref o), (3, .ref oL), (4, .ref oD)] → pb_V w.2.2.2 p l e room_1 s m_ #[.ref b0] below meth c H3 bc bs Q (F0 m_ 3538 ls [])) : pb_V w.2.2.2 p l e room_1 s m_ #[.ref b0] below meth c H (bc + 49000) (bs + 228000) Q (F0 m_ 652 ls []) := by
  obtain ⟨mc, ms, dd, postW, postX, hmc, hms, hdd, hW, h2, h3⟩ := hst
  refine pb_aload_n C dL_law_652 rfl (lv_at hl 2 rfl) ?_
  refine pb_aload_n C dL_law_653 rfl (lv_at hl 1 rfl) ?_
  refine pb_iload C dL_law_654 (lv_at hl 0 rfl) ?_
  refine pb_ic C dL_law_656 ?_
  refine pb_iadd C dL_law_657 ?_
  refine pb_sldN C hX (i := (i + 1)) (by omega) dL_law_658 ?_
  refine pb_aload_n C dL_law_659 rfl (lv_at hl 1 rfl) ?_
  refine pb_iload C dL_law_660 (lv_at hl 0 rfl) ?_
  refine pb_ic C dL_law_662 ?_
  refine pb_iadd C dL_law_663 ?_
  refine pb_sldN C hX (i := (i + 2)) (by omega) dL_law_664 ?_
  refine pb_if_eq C dL_law_665 (x := (xz xs ((i + 2)))) (tgt := 672) (by decide) (xz_r xs _) (fun c665_ => ?_) (fun c665_ => ?_)
  · refine pb_ic C dL_law_672 ?_
    refine pb_aload_n C dL_law_673 rfl (lv_at hl 4 rfl) ?_
    refine pb_go_i (bc' := bc + 49000 - mc) (bs' := bs + 228000 - ms) (pb_runSW (rest := []) C hG hN hW (lw_SW q805 q806 q50 q807) hdX0_closePath rfl hl.1 rfl (Nat.le_of_ble_eq_true rfl) ⟨(Nat.le_of_ble_eq_true rfl), (Nat.le_of_ble_eq_true rfl)⟩ dL_law_674) (by omega) (by omega) (fun k_ H2 hp2 => ?_)
    obtain ⟨f2, hkr, ⟨fsO, hOo⟩, hM3⟩ := h2 _ _ hp2
    have hG := hG.kept f2
    have hX := hX.kept (f2.2 _ (by have := hX.lt; omega) hb0)
    refine pb_istore C dL_law_677 hl (by decide) rfl fun ls hl => ?_
    have hl : lv_has ls 9 [(6, .int (iZ (k_))), (5, .int (iZ (((i : Nat) : Int)))), (0, .ref (b0)), (1, .ref (bO)), (2, .ref (o)), (3, .ref (oL)), (4, .ref (oD))] := hl
    refine pb_aload_n C dL_law_679 rfl (lv_at hl 4 rfl) ?_
    refine pb_aload_n C dL_law_680 rfl (lv_at hl 2 rfl) ?_
    refine pb_iload C dL_law_681 (lv_at hl 1 rfl) ?_
    refine pb_ic C dL_law_683 ?_
    refine pb_iadd C dL_law_684 ?_
    refine pb_sldN C hX (i := (i + 1)) (by omega) dL_law_685 ?_
    refine pb_aload_n C dL_law_686 rfl (lv_at hl 2 rfl) ?_
    refine pb_iload C dL_law_687 (lv_at hl 1 rfl) ?_
    refine pb_ic C dL_law_689 ?_
    refine pb_iadd C dL_law_690 ?_
    refine pb_sldN C hX (i := (i + 2)) (by omega) dL_law_691 ?_
    refine pb_if_eq C dL_law_692 (x := (xz xs ((i + 2)))) (tgt := 699) (by decide) (xz_r xs _) (fun c692_ => ?_) (fun c692_ => ?_)
    · refine pb_ic C dL_law_699 ?_
      refine pb_go_i (bc' := (bc + 49000 - mc)) (bs' := (bs + 228000 - ms)) (pb_runV (rest := []) C hG (hM3) hOo (ci := 2) rfl (lw_V q1843 q1844 q1845 q60 q1846) ⟨rfl, hdX3_closePath⟩ rfl hl.1 rfl (Nat.le_of_ble_eq_true rfl) ⟨show dd + 1 ≤ 27 from by omega, show 8 + (6 + 11) + 64 * dd ≤ 11162 from by omega⟩ dL_law_700) (by omega) (by omega) (fun z_ H3 hp_ => ?_)
      obtain ⟨f3, S9, hMW9, hk9, hv9, hb9, hLI⟩ := h3 _ _ _ _ hp2 hp_
      have hG := hG.kept f3
      have hX := hX.kept (f3.2 _ (by have := hX.lt; omega) hb0)
      obtain ⟨fsP, hOp⟩ := hMW9.o
      refine pb_istore C dL_law_703 hl (by decide) rfl fun ls hl => ?_
      have hl : lv_has ls 9 [(7, .int (iZ (z_))), (6, .int (iZ (k_))), (5, .int (iZ (((i : Nat) : Int)))), (0, .ref (b0)), (1, .ref (bO)), (2, .ref (o)), (3, .ref (oL)), (4, .ref (oD))] := hl
      refine pb_aload_n C dL_law_705 rfl (lv_at hl 5 rfl) ?_
      refine pb_go_x (bc' := (bc + 49000 - mc)) (bs' := (bs + 228000 - ms)) (pb_runV (rest := []) C hG (met_X3_thrown l o S9 hMW9) hOp (ci := 2) rfl (lw_V q1786 q1787 q1788 q60 q1789) ⟨rfl, hdX3_thrown⟩ rfl hl.1 rfl (Nat.le_of_ble_eq_true rfl) ⟨(Nat.le_of_ble_eq_true rfl), (Nat.le_of_ble_eq_true rfl)⟩ dL_law_706) (by omega) (by omega) ?_
      refine pb_eq (g2 := F0 m_ 709 ls [.int (iZ (k_))]) (congrArg (fun z9 => F0 m_ 709 ls [.int (iZ z9)]) (show (S9.1 0) = k_ from hk9)) ?_
      refine pb_iload C dL_law_709 (lv_at hl 1 rfl) ?_
      refine pb_icmp_eq C dL_law_711 (x := k_) (y := k_) (tgt := 716) (by decide) (by omega) (by omega) (fun c711_ => ?_) (fun c711_ => ?_)
      · refine pb_iload C dL_law_716 (lv_at hl 1 rfl) ?_
        refine pb_if_ne C dL_law_718 (x := k_) (tgt := 733) (by decide) (by omega) (fun c718_ => ?_) (fun c718_ => ?_)
        · refine pb_goto C dL_law_733 (tgt := 3538) (by decide) ?_
          exact pb_V.mono (by omega) (by omega) (kk H3 S9 ls hG hX hLI (lv_sub hl [2, 3, 4, 5, 6, 7] rfl))
        · obtain ⟨hzr, g9, hA9⟩ := hv9 c718_
          refine pb_aload_n C dL_law_721 rfl (lv_at hl 6 rfl) ?_
          refine pb_ic C dL_law_722 ?_
          refine pb_lald C hA9.b (i := 0) (v := .long (lZ (z_))) (by omega) (if_pos rfl) dL_law_723 ?_
          refine pb_iload C dL_law_724 (lv_at hl 0 rfl) ?_
          refine pb_i2l C dL_law_726 (x := z_) (by omega) ?_
          refine pb_lcmpE C (x := lZ z_) dL_law_727 ?_
          refine pb_if_eq C dL_law_728 (x := 0) (tgt := 733) (by decide) (by omega) (fun c728_ => ?_) (fun c728_ => ?_)
          · refine pb_goto C dL_law_733 (tgt := 3538) (by decide) ?_
            exact pb_V.mono (by omega) (by omega) (kk H3 S9 ls hG hX hLI (lv_sub hl [2, 3, 4, 5, 6, 7] rfl))
          · exact absurd c728_ (by decide)
      · exact absurd rfl c711_
    · omega
  · omega

set_option maxHeartbeats 1000000 in
theorem blk_closePath_1 {w : pb_W} {p : Program} {l : Launch} {e : Env} {s : State} {m_ : MethodId} {below : List Frame} {meth : Method} {c : Code} {Q : State → Prop} {b0 L : Nat} {xs : Nat → Int32} (C : pb_C w p s m_ meth c #[.ref b0] cL_law 9 RX0 meth.name ret) (hN : pb_Nc s) {H : Heap} (hG : pb_G w s H) (hX : va_X b0 L xs s H) (hb0 : b0 < w.2.2.2) (i : Nat) (hi : i + 6 ≤ L) (hL : L ≤ 144) (bO sl o oL oD : Nat) (S : mS) (hLI : LWI w H bO sl o oL oD S) (hz : xz xs (i + 2) ≠ 0) (hst : StepI w l yX0_closePath cX0_closePath 5 [(0, 10, 13, 13), (0, 10, 17, 31)] yX3_closePath cX3_closePath 6 .int  [.ref bO, .int (iZ (xz xs (i + 1))), .int (iZ (1)), .ref oL] [.ref o, .int (iZ (xz xs (i + 1))), .int (iZ (1))] H bO sl o oL oD) (bc bs : Nat) (ls : Array Slot) (hl : lv_has ls 9 [(5, .int (iZ ((i : Nat) : Int))), (0, .ref b0), (1, .ref bO), (2, .ref o), (3, .ref oL), (4, .ref oD)]) (kk : ∀ (H3 : Heap) (S3 : mS) (ls : Array Slot), pb_G w s H3 → va_X b0 L xs s H3 → LWI w H3 bO sl o oL oD S3 → lv_has ls 9 [(5, .int (iZ ((i : Nat) : Int))), (0, .ref b0), (1, .ref bO), (2, .ref o), (3, .ref oL), (4, .ref oD)] → pb_V w.2.2.2 p l e room_1 s m_ #[.ref b0] below meth c H3 bc bs Q (F0 m_ 3538 ls [])) : pb_V w.2.2.2 p l e room_1 s m_ #[.ref b0] below meth c H (bc + 49000) (bs + 228000) Q (F0 m_ 652 ls []) := by
  obtain ⟨mc, ms, dd, postW, postX, hmc, hms, hdd, hW, h2, h3⟩ := hst
  refine pb_aload_n C dL_law_652 rfl (lv_at hl 2 rfl) ?_
  refine pb_aload_n C dL_law_653 rfl (lv_at hl 1 rfl) ?_
  refine pb_iload C dL_law_654 (lv_at hl 0 rfl) ?_
  refine pb_ic C dL_law_656 ?_
  refine pb_iadd C dL_law_657 ?_
  refine pb_sldN C hX (i := (i + 1)) (by omega) dL_law_658 ?_
  refine pb_aload_n C dL_law_659 rfl (lv_at hl 1 rfl) ?_
  refine pb_iload C dL_law_660 (lv_at hl 0 rfl) ?_
  refine pb_ic C dL_law_662 ?_
  refine pb_iadd C dL_law_663 ?_
  refine pb_sldN C hX (i := (i + 2)) (by omega) dL_law_664 ?_
  refine pb_if_eq C dL_law_665 (x := (xz xs ((i + 2)))) (tgt := 672) (by decide) (xz_r xs _) (fun c665_ => ?_) (fun c665_ => ?_)
  · omega
  · refine pb_ic C dL_law_668 ?_
    refine pb_goto C dL_law_669 (tgt := 673) (by decide) ?_
    refine pb_aload_n C dL_law_673 rfl (lv_at hl 4 rfl) ?_
    refine pb_go_i (bc' := bc + 49000 - mc) (bs' := bs + 228000 - ms) (pb_runSW (rest := []) C hG hN hW (lw_SW q805 q806 q50 q807) hdX0_closePath rfl hl.1 rfl (Nat.le_of_ble_eq_true rfl) ⟨(Nat.le_of_ble_eq_true rfl), (Nat.le_of_ble_eq_true rfl)⟩ dL_law_674) (by omega) (by omega) (fun k_ H2 hp2 => ?_)
    obtain ⟨f2, hkr, ⟨fsO, hOo⟩, hM3⟩ := h2 _ _ hp2
    have hG := hG.kept f2
    have hX := hX.kept (f2.2 _ (by have := hX.lt; omega) hb0)
    refine pb_istore C dL_law_677 hl (by decide) rfl fun ls hl => ?_
    have hl : lv_has ls 9 [(6, .int (iZ (k_))), (5, .int (iZ (((i : Nat) : Int)))), (0, .ref (b0)), (1, .ref (bO)), (2, .ref (o)), (3, .ref (oL)), (4, .ref (oD))] := hl
    refine pb_aload_n C dL_law_679 rfl (lv_at hl 4 rfl) ?_
    refine pb_aload_n C dL_law_680 rfl (lv_at hl 2 rfl) ?_
    refine pb_iload C dL_law_681 (lv_at hl 1 rfl) ?_
    refine pb_ic C dL_law_683 ?_
    refine pb_iadd C dL_law_684 ?_
    refine pb_sldN C hX (i := (i + 1)) (by omega) dL_law_685 ?_
    refine pb_aload_n C dL_law_686 rfl (lv_at hl 2 rfl) ?_
    refine pb_iload C dL_law_687 (lv_at hl 1 rfl) ?_
    refine pb_ic C dL_law_689 ?_
    refine pb_iadd C dL_law_690 ?_
    refine pb_sldN C hX (i := (i + 2)) (by omega) dL_law_691 ?_
    refine pb_if_eq C dL_law_692 (x := (xz xs ((i + 2)))) (tgt := 699) (by decide) (xz_r xs _) (fun c692_ => ?_) (fun c692_ => ?_)
    · omega
    · refine pb_ic C dL_law_695 ?_
      refine pb_goto C dL_law_696 (tgt := 700) (by decide) ?_
      refine pb_go_i (bc' := (bc + 49000 - mc)) (bs' := (bs + 228000 - ms)) (pb_runV (rest := []) C hG (hM3) hOo (ci := 2) rfl (lw_V q1843 q1844 q1845 q60 q1846) ⟨rfl, hdX3_closePath⟩ rfl hl.1 rfl (Nat.le_of_ble_eq_true rfl) ⟨show dd + 1 ≤ 27 from by omega, show 8 + (6 + 11) + 64 * dd ≤ 11162 from by omega⟩ dL_law_700) (by omega) (by omega) (fun z_ H3 hp_ => ?_)
      obtain ⟨f3, S9, hMW9, hk9, hv9, hb9, hLI⟩ := h3 _ _ _ _ hp2 hp_
      have hG := hG.kept f3
      have hX := hX.kept (f3.2 _ (by have := hX.lt; omega) hb0)
      obtain ⟨fsP, hOp⟩ := hMW9.o
      refine pb_istore C dL_law_703 hl (by decide) rfl fun ls hl => ?_
      have hl : lv_has ls 9 [(7, .int (iZ (z_))), (6, .int (iZ (k_))), (5, .int (iZ (((i : Nat) : Int)))), (0, .ref (b0)), (1, .ref (bO)), (2, .ref (o)), (3, .ref (oL)), (4, .ref (oD))] := hl
      refine pb_aload_n C dL_law_705 rfl (lv_at hl 5 rfl) ?_
      refine pb_go_x (bc' := (bc + 49000 - mc)) (bs' := (bs + 228000 - ms)) (pb_runV (rest := []) C hG (met_X3_thrown l o S9 hMW9) hOp (ci := 2) rfl (lw_V q1786 q1787 q1788 q60 q1789) ⟨rfl, hdX3_thrown⟩ rfl hl.1 rfl (Nat.le_of_ble_eq_true rfl) ⟨(Nat.le_of_ble_eq_true rfl), (Nat.le_of_ble_eq_true rfl)⟩ dL_law_706) (by omega) (by omega) ?_
      refine pb_eq (g2 := F0 m_ 709 ls [.int (iZ (k_))]) (congrArg (fun z9 => F0 m_ 709 ls [.int (iZ z9)]) (show (S9.1 0) = k_ from hk9)) ?_
      refine pb_iload C dL_law_709 (lv_at hl 1 rfl) ?_
      refine pb_icmp_eq C dL_law_711 (x := k_) (y := k_) (tgt := 716) (by decide) (by omega) (by omega) (fun c711_ => ?_) (fun c711_ => ?_)
      · refine pb_iload C dL_law_716 (lv_at hl 1 rfl) ?_
        refine pb_if_ne C dL_law_718 (x := k_) (tgt := 733) (by decide) (by omega) (fun c718_ => ?_) (fun c718_ => ?_)
        · refine pb_goto C dL_law_733 (tgt := 3538) (by decide) ?_
          exact pb_V.mono (by omega) (by omega) (kk H3 S9 ls hG hX hLI (lv_sub hl [2, 3, 4, 5, 6, 7] rfl))
        · obtain ⟨hzr, g9, hA9⟩ := hv9 c718_
          refine pb_aload_n C dL_law_721 rfl (lv_at hl 6 rfl) ?_
          refine pb_ic C dL_law_722 ?_
          refine pb_lald C hA9.b (i := 0) (v := .long (lZ (z_))) (by omega) (if_pos rfl) dL_law_723 ?_
          refine pb_iload C dL_law_724 (lv_at hl 0 rfl) ?_
          refine pb_i2l C dL_law_726 (x := z_) (by omega) ?_
          refine pb_lcmpE C (x := lZ z_) dL_law_727 ?_
          refine pb_if_eq C dL_law_728 (x := 0) (tgt := 733) (by decide) (by omega) (fun c728_ => ?_) (fun c728_ => ?_)
          · refine pb_goto C dL_law_733 (tgt := 3538) (by decide) ?_
            exact pb_V.mono (by omega) (by omega) (kk H3 S9 ls hG hX hLI (lv_sub hl [2, 3, 4, 5, 6, 7] rfl))
          · exact absurd c728_ (by decide)
      · exact absurd rfl c711_

set_option maxHeartbeats 1000000 in
theorem blk_combine {w : pb_W} {p : Program} {l : Launch} {e : Env} {s : State} {m_ : MethodId} {below : List Frame} {meth : Method} {c : Code} {Q : State → Prop} {b0 L : Nat} {xs : Nat → Int32} (C : pb_C w p s m_ meth c #[.ref b0] cL_law 9 RX0 meth.name ret) (hN : pb_Nc s) {H : Heap} (hG : pb_G w s H) (hX : va_X b0 L xs s H) (hb0 : b0 < w.2.2.2) (i : Nat) (hi : i + 6 ≤ L) (hL : L ≤ 144) (bO sl o oL oD : Nat) (S : mS) (hLI : LWI w H bO sl o oL oD S)  (hst : StepI w l yX0_combine cX0_combine 7 [(0, 14, 17, 13), (0, 14, 21, 15)] yX3_combine cX3_combine 9 .int  [.ref bO, .int (iZ (chZ (xz xs (i + 1)))), .int (iZ (xz xs (i + 2))), .int (iZ (xz xs (i + 3))), .int (iZ (xz xs (i + 4))), .ref oL] [.ref o, .int (iZ (chZ (xz xs (i + 1)))), .int (iZ (xz xs (i + 2))), .int (iZ (xz xs (i + 3))), .int (iZ (xz xs (i + 4)))] H bO sl o oL oD) (bc bs : Nat) (ls : Array Slot) (hl : lv_has ls 9 [(5, .int (iZ ((i : Nat) : Int))), (0, .ref b0), (1, .ref bO), (2, .ref o), (3, .ref oL), (4, .ref oD)]) (kk : ∀ (H3 : Heap) (S3 : mS) (ls : Array Slot), pb_G w s H3 → va_X b0 L xs s H3 → LWI w H3 bO sl o oL oD S3 → lv_has ls 9 [(5, .int (iZ ((i : Nat) : Int))), (0, .ref b0), (1, .ref bO), (2, .ref o), (3, .ref oL), (4, .ref oD)] → pb_V w.2.2.2 p l e room_1 s m_ #[.ref b0] below meth c H3 bc bs Q (F0 m_ 3538 ls [])) : pb_V w.2.2.2 p l e room_1 s m_ #[.ref b0] below meth c H (bc + 49000) (bs + 228000) Q (F0 m_ 736 ls []) := by
  obtain ⟨mc, ms, dd, postW, postX, hmc, hms, hdd, hW, h2, h3⟩ := hst
  refine pb_aload_n C dL_law_736 rfl (lv_at hl 2 rfl) ?_
  refine pb_aload_n C dL_law_737 rfl (lv_at hl 1 rfl) ?_
  refine pb_iload C dL_law_738 (lv_at hl 0 rfl) ?_
  refine pb_ic C dL_law_740 ?_
  refine pb_iadd C dL_law_741 ?_
  refine pb_sldN C hX (i := (i + 1)) (by omega) dL_law_742 ?_
  refine pb_i2c C (x := (xz xs ((i + 1)))) dL_law_743 ?_
  refine pb_aload_n C dL_law_744 rfl (lv_at hl 1 rfl) ?_
  refine pb_iload C dL_law_745 (lv_at hl 0 rfl) ?_
  refine pb_ic C dL_law_747 ?_
  refine pb_iadd C dL_law_748 ?_
  refine pb_sldN C hX (i := (i + 2)) (by omega) dL_law_749 ?_
  refine pb_aload_n C dL_law_750 rfl (lv_at hl 1 rfl) ?_
  refine pb_iload C dL_law_751 (lv_at hl 0 rfl) ?_
  refine pb_ic C dL_law_753 ?_
  refine pb_iadd C dL_law_754 ?_
  refine pb_sldN C hX (i := (i + 3)) (by omega) dL_law_755 ?_
  refine pb_aload_n C dL_law_756 rfl (lv_at hl 1 rfl) ?_
  refine pb_iload C dL_law_757 (lv_at hl 0 rfl) ?_
  refine pb_ic C dL_law_759 ?_
  refine pb_iadd C dL_law_760 ?_
  refine pb_sldN C hX (i := (i + 4)) (by omega) dL_law_761 ?_
  refine pb_aload_n C dL_law_762 rfl (lv_at hl 4 rfl) ?_
  refine pb_go_i (bc' := bc + 49000 - mc) (bs' := bs + 228000 - ms) (pb_runSW (rest := []) C hG hN hW (lw_SW q835 q836 q50 q837) hdX0_combine rfl hl.1 rfl (Nat.le_of_ble_eq_true rfl) ⟨(Nat.le_of_ble_eq_true rfl), (Nat.le_of_ble_eq_true rfl)⟩ dL_law_763) (by omega) (by omega) (fun k_ H2 hp2 => ?_)
  obtain ⟨f2, hkr, ⟨fsO, hOo⟩, hM3⟩ := h2 _ _ hp2
  have hG := hG.kept f2
  have hX := hX.kept (f2.2 _ (by have := hX.lt; omega) hb0)
  refine pb_istore C dL_law_766 hl (by decide) rfl fun ls hl => ?_
  have hl : lv_has ls 9 [(6, .int (iZ (k_))), (5, .int (iZ (((i : Nat) : Int)))), (0, .ref (b0)), (1, .ref (bO)), (2, .ref (o)), (3, .ref (oL)), (4, .ref (oD))] := hl
  refine pb_aload_n C dL_law_768 rfl (lv_at hl 4 rfl) ?_
  refine pb_aload_n C dL_law_769 rfl (lv_at hl 2 rfl) ?_
  refine pb_iload C dL_law_770 (lv_at hl 1 rfl) ?_
  refine pb_ic C dL_law_772 ?_
  refine pb_iadd C dL_law_773 ?_
  refine pb_sldN C hX (i := (i + 1)) (by omega) dL_law_774 ?_
  refine pb_i2c C (x := (xz xs ((i + 1)))) dL_law_775 ?_
  refine pb_aload_n C dL_law_776 rfl (lv_at hl 2 rfl) ?_
  refine pb_iload C dL_law_777 (lv_at hl 1 rfl) ?_
  refine pb_ic C dL_law_779 ?_
  refine pb_iadd C dL_law_780 ?_
  refine pb_sldN C hX (i := (i + 2)) (by omega) dL_law_781 ?_
  refine pb_aload_n C dL_law_782 rfl (lv_at hl 2 rfl) ?_
  refine pb_iload C dL_law_783 (lv_at hl 1 rfl) ?_
  refine pb_ic C dL_law_785 ?_
  refine pb_iadd C dL_law_786 ?_
  refine pb_sldN C hX (i := (i + 3)) (by omega) dL_law_787 ?_
  refine pb_aload_n C dL_law_788 rfl (lv_at hl 2 rfl) ?_
  refine pb_iload C dL_law_789 (lv_at hl 1 rfl) ?_
  refine pb_ic C dL_law_791 ?_
  refine pb_iadd C dL_law_792 ?_
  refine pb_sldN C hX (i := (i + 4)) (by omega) dL_law_793 ?_
  refine pb_go_i (bc' := (bc + 49000 - mc)) (bs' := (bs + 228000 - ms)) (pb_runV (rest := []) C hG (hM3) hOo (ci := 2) rfl (lw_V q1855 q1856 q1857 q60 q1858) ⟨rfl, hdX3_combine⟩ rfl hl.1 rfl (Nat.le_of_ble_eq_true rfl) ⟨show dd + 1 ≤ 27 from by omega, show 8 + (9 + 11) + 64 * dd ≤ 11162 from by omega⟩ dL_law_794) (by omega) (by omega) (fun z_ H3 hp_ => ?_)
  obtain ⟨f3, S9, hMW9, hk9, hv9, hb9, hLI⟩ := h3 _ _ _ _ hp2 hp_
  have hG := hG.kept f3
  have hX := hX.kept (f3.2 _ (by have := hX.lt; omega) hb0)
  obtain ⟨fsP, hOp⟩ := hMW9.o
  refine pb_istore C dL_law_797 hl (by decide) rfl fun ls hl => ?_
  have hl : lv_has ls 9 [(7, .int (iZ (z_))), (6, .int (iZ (k_))), (5, .int (iZ (((i : Nat) : Int)))), (0, .ref (b0)), (1, .ref (bO)), (2, .ref (o)), (3, .ref (oL)), (4, .ref (oD))] := hl
  refine pb_aload_n C dL_law_799 rfl (lv_at hl 5 rfl) ?_
  refine pb_go_x (bc' := (bc + 49000 - mc)) (bs' := (bs + 228000 - ms)) (pb_runV (rest := []) C hG (met_X3_thrown l o S9 hMW9) hOp (ci := 2) rfl (lw_V q1786 q1787 q1788 q60 q1789) ⟨rfl, hdX3_thrown⟩ rfl hl.1 rfl (Nat.le_of_ble_eq_true rfl) ⟨(Nat.le_of_ble_eq_true rfl), (Nat.le_of_ble_eq_true rfl)⟩ dL_law_800) (by omega) (by omega) ?_
  refine pb_eq (g2 := F0 m_ 803 ls [.int (iZ (k_))]) (congrArg (fun z9 => F0 m_ 803 ls [.int (iZ z9)]) (show (S9.1 0) = k_ from hk9)) ?_
  refine pb_iload C dL_law_803 (lv_at hl 1 rfl) ?_
  refine pb_icmp_eq C dL_law_805 (x := k_) (y := k_) (tgt := 810) (by decide) (by omega) (by omega) (fun c805_ => ?_) (fun c805_ => ?_)
  · refine pb_iload C dL_law_810 (lv_at hl 1 rfl) ?_
    refine pb_if_ne C dL_law_812 (x := k_) (tgt := 827) (by decide) (by omega) (fun c812_ => ?_) (fun c812_ => ?_)
    · refine pb_goto C dL_law_827 (tgt := 3538) (by decide) ?_
      exact pb_V.mono (by omega) (by omega) (kk H3 S9 ls hG hX hLI (lv_sub hl [2, 3, 4, 5, 6, 7] rfl))
    · obtain ⟨hzr, g9, hA9⟩ := hv9 c812_
      refine pb_aload_n C dL_law_815 rfl (lv_at hl 6 rfl) ?_
      refine pb_ic C dL_law_816 ?_
      refine pb_lald C hA9.b (i := 0) (v := .long (lZ (z_))) (by omega) (if_pos rfl) dL_law_817 ?_
      refine pb_iload C dL_law_818 (lv_at hl 0 rfl) ?_
      refine pb_i2l C dL_law_820 (x := z_) (by omega) ?_
      refine pb_lcmpE C (x := lZ z_) dL_law_821 ?_
      refine pb_if_eq C dL_law_822 (x := 0) (tgt := 827) (by decide) (by omega) (fun c822_ => ?_) (fun c822_ => ?_)
      · refine pb_goto C dL_law_827 (tgt := 3538) (by decide) ?_
        exact pb_V.mono (by omega) (by omega) (kk H3 S9 ls hG hX hLI (lv_sub hl [2, 3, 4, 5, 6, 7] rfl))
      · exact absurd c822_ (by decide)
  · exact absurd rfl c805_

set_option maxHeartbeats 1000000 in
theorem blk_grow {w : pb_W} {p : Program} {l : Launch} {e : Env} {s : State} {m_ : MethodId} {below : List Frame} {meth : Method} {c : Code} {Q : State → Prop} {b0 L : Nat} {xs : Nat → Int32} (C : pb_C w p s m_ meth c #[.ref b0] cL_law 9 RX0 meth.name ret) (hN : pb_Nc s) {H : Heap} (hG : pb_G w s H) (hX : va_X b0 L xs s H) (hb0 : b0 < w.2.2.2) (i : Nat) (hi : i + 6 ≤ L) (hL : L ≤ 144) (bO sl o oL oD : Nat) (S : mS) (hLI : LWI w H bO sl o oL oD S)  (hst : StepI w l yX0_grow cX0_grow 6 [(0, 12, 15, 13), (0, 12, 19, 15)] yX3_grow cX3_grow 4 .int  [.ref bO, .int (iZ (xz xs (i + 1))), .int (iZ (xz xs (i + 2))), .int (iZ (xz xs (i + 3))), .ref oL] [.ref o, .int (iZ (xz xs (i + 1))), .int (iZ (xz xs (i + 2))), .int (iZ (xz xs (i + 3)))] H bO sl o oL oD) (bc bs : Nat) (ls : Array Slot) (hl : lv_has ls 9 [(5, .int (iZ ((i : Nat) : Int))), (0, .ref b0), (1, .ref bO), (2, .ref o), (3, .ref oL), (4, .ref oD)]) (kk : ∀ (H3 : Heap) (S3 : mS) (ls : Array Slot), pb_G w s H3 → va_X b0 L xs s H3 → LWI w H3 bO sl o oL oD S3 → lv_has ls 9 [(5, .int (iZ ((i : Nat) : Int))), (0, .ref b0), (1, .ref bO), (2, .ref o), (3, .ref oL), (4, .ref oD)] → pb_V w.2.2.2 p l e room_1 s m_ #[.ref b0] below meth c H3 bc bs Q (F0 m_ 3538 ls [])) : pb_V w.2.2.2 p l e room_1 s m_ #[.ref b0] below meth c H (bc + 49000) (bs + 228000) Q (F0 m_ 830 ls []) := by
  obtain ⟨mc, ms, dd, postW, postX, hmc, hms, hdd, hW, h2, h3⟩ := hst
  refine pb_aload_n C dL_law_830 rfl (lv_at hl 2 rfl) ?_
  refine pb_aload_n C dL_law_831 rfl (lv_at hl 1 rfl) ?_
  refine pb_iload C dL_law_832 (lv_at hl 0 rfl) ?_
  refine pb_ic C dL_law_834 ?_
  refine pb_iadd C dL_law_835 ?_
  refine pb_sldN C hX (i := (i + 1)) (by omega) dL_law_836 ?_
  refine pb_aload_n C dL_law_837 rfl (lv_at hl 1 rfl) ?_
  refine pb_iload C dL_law_838 (lv_at hl 0 rfl) ?_
  refine pb_ic C dL_law_840 ?_
  refine pb_iadd C dL_law_841 ?_
  refine pb_sldN C hX (i := (i + 2)) (by omega) dL_law_842 ?_
  refine pb_aload_n C dL_law_843 rfl (lv_at hl 1 rfl) ?_
  refine pb_iload C dL_law_844 (lv_at hl 0 rfl) ?_
  refine pb_ic C dL_law_846 ?_
  refine pb_iadd C dL_law_847 ?_
  refine pb_sldN C hX (i := (i + 3)) (by omega) dL_law_848 ?_
  refine pb_aload_n C dL_law_849 rfl (lv_at hl 4 rfl) ?_
  refine pb_go_i (bc' := bc + 49000 - mc) (bs' := bs + 228000 - ms) (pb_runSW (rest := []) C hG hN hW (lw_SW q858 q859 q50 q860) hdX0_grow rfl hl.1 rfl (Nat.le_of_ble_eq_true rfl) ⟨(Nat.le_of_ble_eq_true rfl), (Nat.le_of_ble_eq_true rfl)⟩ dL_law_850) (by omega) (by omega) (fun k_ H2 hp2 => ?_)
  obtain ⟨f2, hkr, ⟨fsO, hOo⟩, hM3⟩ := h2 _ _ hp2
  have hG := hG.kept f2
  have hX := hX.kept (f2.2 _ (by have := hX.lt; omega) hb0)
  refine pb_istore C dL_law_853 hl (by decide) rfl fun ls hl => ?_
  have hl : lv_has ls 9 [(6, .int (iZ (k_))), (5, .int (iZ (((i : Nat) : Int)))), (0, .ref (b0)), (1, .ref (bO)), (2, .ref (o)), (3, .ref (oL)), (4, .ref (oD))] := hl
  refine pb_aload_n C dL_law_855 rfl (lv_at hl 4 rfl) ?_
  refine pb_aload_n C dL_law_856 rfl (lv_at hl 2 rfl) ?_
  refine pb_iload C dL_law_857 (lv_at hl 1 rfl) ?_
  refine pb_ic C dL_law_859 ?_
  refine pb_iadd C dL_law_860 ?_
  refine pb_sldN C hX (i := (i + 1)) (by omega) dL_law_861 ?_
  refine pb_aload_n C dL_law_862 rfl (lv_at hl 2 rfl) ?_
  refine pb_iload C dL_law_863 (lv_at hl 1 rfl) ?_
  refine pb_ic C dL_law_865 ?_
  refine pb_iadd C dL_law_866 ?_
  refine pb_sldN C hX (i := (i + 2)) (by omega) dL_law_867 ?_
  refine pb_aload_n C dL_law_868 rfl (lv_at hl 2 rfl) ?_
  refine pb_iload C dL_law_869 (lv_at hl 1 rfl) ?_
  refine pb_ic C dL_law_871 ?_
  refine pb_iadd C dL_law_872 ?_
  refine pb_sldN C hX (i := (i + 3)) (by omega) dL_law_873 ?_
  refine pb_go_i (bc' := (bc + 49000 - mc)) (bs' := (bs + 228000 - ms)) (pb_runV (rest := []) C hG (hM3) hOo (ci := 2) rfl (lw_V q1859 q1860 q1861 q60 q1862) ⟨rfl, hdX3_grow⟩ rfl hl.1 rfl (Nat.le_of_ble_eq_true rfl) ⟨show dd + 1 ≤ 27 from by omega, show 8 + (4 + 11) + 64 * dd ≤ 11162 from by omega⟩ dL_law_874) (by omega) (by omega) (fun z_ H3 hp_ => ?_)
  obtain ⟨f3, S9, hMW9, hk9, hv9, hb9, hLI⟩ := h3 _ _ _ _ hp2 hp_
  have hG := hG.kept f3
  have hX := hX.kept (f3.2 _ (by have := hX.lt; omega) hb0)
  obtain ⟨fsP, hOp⟩ := hMW9.o
  refine pb_istore C dL_law_877 hl (by decide) rfl fun ls hl => ?_
  have hl : lv_has ls 9 [(7, .int (iZ (z_))), (6, .int (iZ (k_))), (5, .int (iZ (((i : Nat) : Int)))), (0, .ref (b0)), (1, .ref (bO)), (2, .ref (o)), (3, .ref (oL)), (4, .ref (oD))] := hl
  refine pb_aload_n C dL_law_879 rfl (lv_at hl 5 rfl) ?_
  refine pb_go_x (bc' := (bc + 49000 - mc)) (bs' := (bs + 228000 - ms)) (pb_runV (rest := []) C hG (met_X3_thrown l o S9 hMW9) hOp (ci := 2) rfl (lw_V q1786 q1787 q1788 q60 q1789) ⟨rfl, hdX3_thrown⟩ rfl hl.1 rfl (Nat.le_of_ble_eq_true rfl) ⟨(Nat.le_of_ble_eq_true rfl), (Nat.le_of_ble_eq_true rfl)⟩ dL_law_880) (by omega) (by omega) ?_
  refine pb_eq (g2 := F0 m_ 883 ls [.int (iZ (k_))]) (congrArg (fun z9 => F0 m_ 883 ls [.int (iZ z9)]) (show (S9.1 0) = k_ from hk9)) ?_
  refine pb_iload C dL_law_883 (lv_at hl 1 rfl) ?_
  refine pb_icmp_eq C dL_law_885 (x := k_) (y := k_) (tgt := 890) (by decide) (by omega) (by omega) (fun c885_ => ?_) (fun c885_ => ?_)
  · refine pb_iload C dL_law_890 (lv_at hl 1 rfl) ?_
    refine pb_if_ne C dL_law_892 (x := k_) (tgt := 907) (by decide) (by omega) (fun c892_ => ?_) (fun c892_ => ?_)
    · refine pb_goto C dL_law_907 (tgt := 3538) (by decide) ?_
      exact pb_V.mono (by omega) (by omega) (kk H3 S9 ls hG hX hLI (lv_sub hl [2, 3, 4, 5, 6, 7] rfl))
    · obtain ⟨hzr, g9, hA9⟩ := hv9 c892_
      refine pb_aload_n C dL_law_895 rfl (lv_at hl 6 rfl) ?_
      refine pb_ic C dL_law_896 ?_
      refine pb_lald C hA9.b (i := 0) (v := .long (lZ (z_))) (by omega) (if_pos rfl) dL_law_897 ?_
      refine pb_iload C dL_law_898 (lv_at hl 0 rfl) ?_
      refine pb_i2l C dL_law_900 (x := z_) (by omega) ?_
      refine pb_lcmpE C (x := lZ z_) dL_law_901 ?_
      refine pb_if_eq C dL_law_902 (x := 0) (tgt := 907) (by decide) (by omega) (fun c902_ => ?_) (fun c902_ => ?_)
      · refine pb_goto C dL_law_907 (tgt := 3538) (by decide) ?_
        exact pb_V.mono (by omega) (by omega) (kk H3 S9 ls hG hX hLI (lv_sub hl [2, 3, 4, 5, 6, 7] rfl))
      · exact absurd c902_ (by decide)
  · exact absurd rfl c885_

set_option maxHeartbeats 1000000 in
theorem blk_shrink {w : pb_W} {p : Program} {l : Launch} {e : Env} {s : State} {m_ : MethodId} {below : List Frame} {meth : Method} {c : Code} {Q : State → Prop} {b0 L : Nat} {xs : Nat → Int32} (C : pb_C w p s m_ meth c #[.ref b0] cL_law 9 RX0 meth.name ret) (hN : pb_Nc s) {H : Heap} (hG : pb_G w s H) (hX : va_X b0 L xs s H) (hb0 : b0 < w.2.2.2) (i : Nat) (hi : i + 6 ≤ L) (hL : L ≤ 144) (bO sl o oL oD : Nat) (S : mS) (hLI : LWI w H bO sl o oL oD S)  (hst : StepI w l yX0_shrink cX0_shrink 6 [(0, 12, 15, 13), (0, 12, 19, 15)] yX3_shrink cX3_shrink 4 .int  [.ref bO, .int (iZ (xz xs (i + 1))), .int (iZ (xz xs (i + 2))), .int (iZ (xz xs (i + 3))), .ref oL] [.ref o, .int (iZ (xz xs (i + 1))), .int (iZ (xz xs (i + 2))), .int (iZ (xz xs (i + 3)))] H bO sl o oL oD) (bc bs : Nat) (ls : Array Slot) (hl : lv_has ls 9 [(5, .int (iZ ((i : Nat) : Int))), (0, .ref b0), (1, .ref bO), (2, .ref o), (3, .ref oL), (4, .ref oD)]) (kk : ∀ (H3 : Heap) (S3 : mS) (ls : Array Slot), pb_G w s H3 → va_X b0 L xs s H3 → LWI w H3 bO sl o oL oD S3 → lv_has ls 9 [(5, .int (iZ ((i : Nat) : Int))), (0, .ref b0), (1, .ref bO), (2, .ref o), (3, .ref oL), (4, .ref oD)] → pb_V w.2.2.2 p l e room_1 s m_ #[.ref b0] below meth c H3 bc bs Q (F0 m_ 3538 ls [])) : pb_V w.2.2.2 p l e room_1 s m_ #[.ref b0] below meth c H (bc + 49000) (bs + 228000) Q (F0 m_ 910 ls []) := by
  obtain ⟨mc, ms, dd, postW, postX, hmc, hms, hdd, hW, h2, h3⟩ := hst
  refine pb_aload_n C dL_law_910 rfl (lv_at hl 2 rfl) ?_
  refine pb_aload_n C dL_law_911 rfl (lv_at hl 1 rfl) ?_
  refine pb_iload C dL_law_912 (lv_at hl 0 rfl) ?_
  refine pb_ic C dL_law_914 ?_
  refine pb_iadd C dL_law_915 ?_
  refine pb_sldN C hX (i := (i + 1)) (by omega) dL_law_916 ?_
  refine pb_aload_n C dL_law_917 rfl (lv_at hl 1 rfl) ?_
  refine pb_iload C dL_law_918 (lv_at hl 0 rfl) ?_
  refine pb_ic C dL_law_920 ?_
  refine pb_iadd C dL_law_921 ?_
  refine pb_sldN C hX (i := (i + 2)) (by omega) dL_law_922 ?_
  refine pb_aload_n C dL_law_923 rfl (lv_at hl 1 rfl) ?_
  refine pb_iload C dL_law_924 (lv_at hl 0 rfl) ?_
  refine pb_ic C dL_law_926 ?_
  refine pb_iadd C dL_law_927 ?_
  refine pb_sldN C hX (i := (i + 3)) (by omega) dL_law_928 ?_
  refine pb_aload_n C dL_law_929 rfl (lv_at hl 4 rfl) ?_
  refine pb_go_i (bc' := bc + 49000 - mc) (bs' := bs + 228000 - ms) (pb_runSW (rest := []) C hG hN hW (lw_SW q904 q905 q50 q906) hdX0_shrink rfl hl.1 rfl (Nat.le_of_ble_eq_true rfl) ⟨(Nat.le_of_ble_eq_true rfl), (Nat.le_of_ble_eq_true rfl)⟩ dL_law_930) (by omega) (by omega) (fun k_ H2 hp2 => ?_)
  obtain ⟨f2, hkr, ⟨fsO, hOo⟩, hM3⟩ := h2 _ _ hp2
  have hG := hG.kept f2
  have hX := hX.kept (f2.2 _ (by have := hX.lt; omega) hb0)
  refine pb_istore C dL_law_933 hl (by decide) rfl fun ls hl => ?_
  have hl : lv_has ls 9 [(6, .int (iZ (k_))), (5, .int (iZ (((i : Nat) : Int)))), (0, .ref (b0)), (1, .ref (bO)), (2, .ref (o)), (3, .ref (oL)), (4, .ref (oD))] := hl
  refine pb_aload_n C dL_law_935 rfl (lv_at hl 4 rfl) ?_
  refine pb_aload_n C dL_law_936 rfl (lv_at hl 2 rfl) ?_
  refine pb_iload C dL_law_937 (lv_at hl 1 rfl) ?_
  refine pb_ic C dL_law_939 ?_
  refine pb_iadd C dL_law_940 ?_
  refine pb_sldN C hX (i := (i + 1)) (by omega) dL_law_941 ?_
  refine pb_aload_n C dL_law_942 rfl (lv_at hl 2 rfl) ?_
  refine pb_iload C dL_law_943 (lv_at hl 1 rfl) ?_
  refine pb_ic C dL_law_945 ?_
  refine pb_iadd C dL_law_946 ?_
  refine pb_sldN C hX (i := (i + 2)) (by omega) dL_law_947 ?_
  refine pb_aload_n C dL_law_948 rfl (lv_at hl 2 rfl) ?_
  refine pb_iload C dL_law_949 (lv_at hl 1 rfl) ?_
  refine pb_ic C dL_law_951 ?_
  refine pb_iadd C dL_law_952 ?_
  refine pb_sldN C hX (i := (i + 3)) (by omega) dL_law_953 ?_
  refine pb_go_i (bc' := (bc + 49000 - mc)) (bs' := (bs + 228000 - ms)) (pb_runV (rest := []) C hG (hM3) hOo (ci := 2) rfl (lw_V q1882 q1883 q1884 q60 q1885) ⟨rfl, hdX3_shrink⟩ rfl hl.1 rfl (Nat.le_of_ble_eq_true rfl) ⟨show dd + 1 ≤ 27 from by omega, show 8 + (4 + 11) + 64 * dd ≤ 11162 from by omega⟩ dL_law_954) (by omega) (by omega) (fun z_ H3 hp_ => ?_)
  obtain ⟨f3, S9, hMW9, hk9, hv9, hb9, hLI⟩ := h3 _ _ _ _ hp2 hp_
  have hG := hG.kept f3
  have hX := hX.kept (f3.2 _ (by have := hX.lt; omega) hb0)
  obtain ⟨fsP, hOp⟩ := hMW9.o
  refine pb_istore C dL_law_957 hl (by decide) rfl fun ls hl => ?_
  have hl : lv_has ls 9 [(7, .int (iZ (z_))), (6, .int (iZ (k_))), (5, .int (iZ (((i : Nat) : Int)))), (0, .ref (b0)), (1, .ref (bO)), (2, .ref (o)), (3, .ref (oL)), (4, .ref (oD))] := hl
  refine pb_aload_n C dL_law_959 rfl (lv_at hl 5 rfl) ?_
  refine pb_go_x (bc' := (bc + 49000 - mc)) (bs' := (bs + 228000 - ms)) (pb_runV (rest := []) C hG (met_X3_thrown l o S9 hMW9) hOp (ci := 2) rfl (lw_V q1786 q1787 q1788 q60 q1789) ⟨rfl, hdX3_thrown⟩ rfl hl.1 rfl (Nat.le_of_ble_eq_true rfl) ⟨(Nat.le_of_ble_eq_true rfl), (Nat.le_of_ble_eq_true rfl)⟩ dL_law_960) (by omega) (by omega) ?_
  refine pb_eq (g2 := F0 m_ 963 ls [.int (iZ (k_))]) (congrArg (fun z9 => F0 m_ 963 ls [.int (iZ z9)]) (show (S9.1 0) = k_ from hk9)) ?_
  refine pb_iload C dL_law_963 (lv_at hl 1 rfl) ?_
  refine pb_icmp_eq C dL_law_965 (x := k_) (y := k_) (tgt := 970) (by decide) (by omega) (by omega) (fun c965_ => ?_) (fun c965_ => ?_)
  · refine pb_iload C dL_law_970 (lv_at hl 1 rfl) ?_
    refine pb_if_ne C dL_law_972 (x := k_) (tgt := 987) (by decide) (by omega) (fun c972_ => ?_) (fun c972_ => ?_)
    · refine pb_goto C dL_law_987 (tgt := 3538) (by decide) ?_
      exact pb_V.mono (by omega) (by omega) (kk H3 S9 ls hG hX hLI (lv_sub hl [2, 3, 4, 5, 6, 7] rfl))
    · obtain ⟨hzr, g9, hA9⟩ := hv9 c972_
      refine pb_aload_n C dL_law_975 rfl (lv_at hl 6 rfl) ?_
      refine pb_ic C dL_law_976 ?_
      refine pb_lald C hA9.b (i := 0) (v := .long (lZ (z_))) (by omega) (if_pos rfl) dL_law_977 ?_
      refine pb_iload C dL_law_978 (lv_at hl 0 rfl) ?_
      refine pb_i2l C dL_law_980 (x := z_) (by omega) ?_
      refine pb_lcmpE C (x := lZ z_) dL_law_981 ?_
      refine pb_if_eq C dL_law_982 (x := 0) (tgt := 987) (by decide) (by omega) (fun c982_ => ?_) (fun c982_ => ?_)
      · refine pb_goto C dL_law_987 (tgt := 3538) (by decide) ?_
        exact pb_V.mono (by omega) (by omega) (kk H3 S9 ls hG hX hLI (lv_sub hl [2, 3, 4, 5, 6, 7] rfl))
      · exact absurd c982_ (by decide)
  · exact absurd rfl c965_

set_option maxHeartbeats 1000000 in
theorem blk_move {w : pb_W} {p : Program} {l : Launch} {e : Env} {s : State} {m_ : MethodId} {below : List Frame} {meth : Method} {c : Code} {Q : State → Prop} {b0 L : Nat} {xs : Nat → Int32} (C : pb_C w p s m_ meth c #[.ref b0] cL_law 9 RX0 meth.name ret) (hN : pb_Nc s) {H : Heap} (hG : pb_G w s H) (hX : va_X b0 L xs s H) (hb0 : b0 < w.2.2.2) (i : Nat) (hi : i + 6 ≤ L) (hL : L ≤ 144) (bO sl o oL oD : Nat) (S : mS) (hLI : LWI w H bO sl o oL oD S)  (hst : StepI w l yX0_move cX0_move 7 [(0, 14, 17, 13), (0, 14, 21, 15)] yX3_move cX3_move 7 .int  [.ref bO, .int (iZ (xz xs (i + 1))), .int (iZ (xz xs (i + 2))), .int (iZ (xz xs (i + 3))), .int (iZ (xz xs (i + 4))), .ref oL] [.ref o, .int (iZ (xz xs (i + 1))), .int (iZ (xz xs (i + 2))), .int (iZ (xz xs (i + 3))), .int (iZ (xz xs (i + 4)))] H bO sl o oL oD) (bc bs : Nat) (ls : Array Slot) (hl : lv_has ls 9 [(5, .int (iZ ((i : Nat) : Int))), (0, .ref b0), (1, .ref bO), (2, .ref o), (3, .ref oL), (4, .ref oD)]) (kk : ∀ (H3 : Heap) (S3 : mS) (ls : Array Slot), pb_G w s H3 → va_X b0 L xs s H3 → LWI w H3 bO sl o oL oD S3 → lv_has ls 9 [(5, .int (iZ ((i : Nat) : Int))), (0, .ref b0), (1, .ref bO), (2, .ref o), (3, .ref oL), (4, .ref oD)] → pb_V w.2.2.2 p l e room_1 s m_ #[.ref b0] below meth c H3 bc bs Q (F0 m_ 3538 ls [])) : pb_V w.2.2.2 p l e room_1 s m_ #[.ref b0] below meth c H (bc + 49000) (bs + 228000) Q (F0 m_ 990 ls []) := by
  obtain ⟨mc, ms, dd, postW, postX, hmc, hms, hdd, hW, h2, h3⟩ := hst
  refine pb_aload_n C dL_law_990 rfl (lv_at hl 2 rfl) ?_
  refine pb_aload_n C dL_law_991 rfl (lv_at hl 1 rfl) ?_
  refine pb_iload C dL_law_992 (lv_at hl 0 rfl) ?_
  refine pb_ic C dL_law_994 ?_
  refine pb_iadd C dL_law_995 ?_
  refine pb_sldN C hX (i := (i + 1)) (by omega) dL_law_996 ?_
  refine pb_aload_n C dL_law_997 rfl (lv_at hl 1 rfl) ?_
  refine pb_iload C dL_law_998 (lv_at hl 0 rfl) ?_
  refine pb_ic C dL_law_1000 ?_
  refine pb_iadd C dL_law_1001 ?_
  refine pb_sldN C hX (i := (i + 2)) (by omega) dL_law_1002 ?_
  refine pb_aload_n C dL_law_1003 rfl (lv_at hl 1 rfl) ?_
  refine pb_iload C dL_law_1004 (lv_at hl 0 rfl) ?_
  refine pb_ic C dL_law_1006 ?_
  refine pb_iadd C dL_law_1007 ?_
  refine pb_sldN C hX (i := (i + 3)) (by omega) dL_law_1008 ?_
  refine pb_aload_n C dL_law_1009 rfl (lv_at hl 1 rfl) ?_
  refine pb_iload C dL_law_1010 (lv_at hl 0 rfl) ?_
  refine pb_ic C dL_law_1012 ?_
  refine pb_iadd C dL_law_1013 ?_
  refine pb_sldN C hX (i := (i + 4)) (by omega) dL_law_1014 ?_
  refine pb_aload_n C dL_law_1015 rfl (lv_at hl 4 rfl) ?_
  refine pb_go_i (bc' := bc + 49000 - mc) (bs' := bs + 228000 - ms) (pb_runSW (rest := []) C hG hN hW (lw_SW q917 q918 q50 q919) hdX0_move rfl hl.1 rfl (Nat.le_of_ble_eq_true rfl) ⟨(Nat.le_of_ble_eq_true rfl), (Nat.le_of_ble_eq_true rfl)⟩ dL_law_1016) (by omega) (by omega) (fun k_ H2 hp2 => ?_)
  obtain ⟨f2, hkr, ⟨fsO, hOo⟩, hM3⟩ := h2 _ _ hp2
  have hG := hG.kept f2
  have hX := hX.kept (f2.2 _ (by have := hX.lt; omega) hb0)
  refine pb_istore C dL_law_1019 hl (by decide) rfl fun ls hl => ?_
  have hl : lv_has ls 9 [(6, .int (iZ (k_))), (5, .int (iZ (((i : Nat) : Int)))), (0, .ref (b0)), (1, .ref (bO)), (2, .ref (o)), (3, .ref (oL)), (4, .ref (oD))] := hl
  refine pb_aload_n C dL_law_1021 rfl (lv_at hl 4 rfl) ?_
  refine pb_aload_n C dL_law_1022 rfl (lv_at hl 2 rfl) ?_
  refine pb_iload C dL_law_1023 (lv_at hl 1 rfl) ?_
  refine pb_ic C dL_law_1025 ?_
  refine pb_iadd C dL_law_1026 ?_
  refine pb_sldN C hX (i := (i + 1)) (by omega) dL_law_1027 ?_
  refine pb_aload_n C dL_law_1028 rfl (lv_at hl 2 rfl) ?_
  refine pb_iload C dL_law_1029 (lv_at hl 1 rfl) ?_
  refine pb_ic C dL_law_1031 ?_
  refine pb_iadd C dL_law_1032 ?_
  refine pb_sldN C hX (i := (i + 2)) (by omega) dL_law_1033 ?_
  refine pb_aload_n C dL_law_1034 rfl (lv_at hl 2 rfl) ?_
  refine pb_iload C dL_law_1035 (lv_at hl 1 rfl) ?_
  refine pb_ic C dL_law_1037 ?_
  refine pb_iadd C dL_law_1038 ?_
  refine pb_sldN C hX (i := (i + 3)) (by omega) dL_law_1039 ?_
  refine pb_aload_n C dL_law_1040 rfl (lv_at hl 2 rfl) ?_
  refine pb_iload C dL_law_1041 (lv_at hl 1 rfl) ?_
  refine pb_ic C dL_law_1043 ?_
  refine pb_iadd C dL_law_1044 ?_
  refine pb_sldN C hX (i := (i + 4)) (by omega) dL_law_1045 ?_
  refine pb_go_i (bc' := (bc + 49000 - mc)) (bs' := (bs + 228000 - ms)) (pb_runV (rest := []) C hG (hM3) hOo (ci := 2) rfl (lw_V q1886 q1887 q1888 q60 q1889) ⟨rfl, hdX3_move⟩ rfl hl.1 rfl (Nat.le_of_ble_eq_true rfl) ⟨show dd + 1 ≤ 27 from by omega, show 8 + (7 + 11) + 64 * dd ≤ 11162 from by omega⟩ dL_law_1046) (by omega) (by omega) (fun z_ H3 hp_ => ?_)
  obtain ⟨f3, S9, hMW9, hk9, hv9, hb9, hLI⟩ := h3 _ _ _ _ hp2 hp_
  have hG := hG.kept f3
  have hX := hX.kept (f3.2 _ (by have := hX.lt; omega) hb0)
  obtain ⟨fsP, hOp⟩ := hMW9.o
  refine pb_istore C dL_law_1049 hl (by decide) rfl fun ls hl => ?_
  have hl : lv_has ls 9 [(7, .int (iZ (z_))), (6, .int (iZ (k_))), (5, .int (iZ (((i : Nat) : Int)))), (0, .ref (b0)), (1, .ref (bO)), (2, .ref (o)), (3, .ref (oL)), (4, .ref (oD))] := hl
  refine pb_aload_n C dL_law_1051 rfl (lv_at hl 5 rfl) ?_
  refine pb_go_x (bc' := (bc + 49000 - mc)) (bs' := (bs + 228000 - ms)) (pb_runV (rest := []) C hG (met_X3_thrown l o S9 hMW9) hOp (ci := 2) rfl (lw_V q1786 q1787 q1788 q60 q1789) ⟨rfl, hdX3_thrown⟩ rfl hl.1 rfl (Nat.le_of_ble_eq_true rfl) ⟨(Nat.le_of_ble_eq_true rfl), (Nat.le_of_ble_eq_true rfl)⟩ dL_law_1052) (by omega) (by omega) ?_
  refine pb_eq (g2 := F0 m_ 1055 ls [.int (iZ (k_))]) (congrArg (fun z9 => F0 m_ 1055 ls [.int (iZ z9)]) (show (S9.1 0) = k_ from hk9)) ?_
  refine pb_iload C dL_law_1055 (lv_at hl 1 rfl) ?_
  refine pb_icmp_eq C dL_law_1057 (x := k_) (y := k_) (tgt := 1062) (by decide) (by omega) (by omega) (fun c1057_ => ?_) (fun c1057_ => ?_)
  · refine pb_iload C dL_law_1062 (lv_at hl 1 rfl) ?_
    refine pb_if_ne C dL_law_1064 (x := k_) (tgt := 1079) (by decide) (by omega) (fun c1064_ => ?_) (fun c1064_ => ?_)
    · refine pb_goto C dL_law_1079 (tgt := 3538) (by decide) ?_
      exact pb_V.mono (by omega) (by omega) (kk H3 S9 ls hG hX hLI (lv_sub hl [2, 3, 4, 5, 6, 7] rfl))
    · obtain ⟨hzr, g9, hA9⟩ := hv9 c1064_
      refine pb_aload_n C dL_law_1067 rfl (lv_at hl 6 rfl) ?_
      refine pb_ic C dL_law_1068 ?_
      refine pb_lald C hA9.b (i := 0) (v := .long (lZ (z_))) (by omega) (if_pos rfl) dL_law_1069 ?_
      refine pb_iload C dL_law_1070 (lv_at hl 0 rfl) ?_
      refine pb_i2l C dL_law_1072 (x := z_) (by omega) ?_
      refine pb_lcmpE C (x := lZ z_) dL_law_1073 ?_
      refine pb_if_eq C dL_law_1074 (x := 0) (tgt := 1079) (by decide) (by omega) (fun c1074_ => ?_) (fun c1074_ => ?_)
      · refine pb_goto C dL_law_1079 (tgt := 3538) (by decide) ?_
        exact pb_V.mono (by omega) (by omega) (kk H3 S9 ls hG hX hLI (lv_sub hl [2, 3, 4, 5, 6, 7] rfl))
      · exact absurd c1074_ (by decide)
  · exact absurd rfl c1057_

set_option maxHeartbeats 1000000 in
theorem blk_turn {w : pb_W} {p : Program} {l : Launch} {e : Env} {s : State} {m_ : MethodId} {below : List Frame} {meth : Method} {c : Code} {Q : State → Prop} {b0 L : Nat} {xs : Nat → Int32} (C : pb_C w p s m_ meth c #[.ref b0] cL_law 9 RX0 meth.name ret) (hN : pb_Nc s) {H : Heap} (hG : pb_G w s H) (hX : va_X b0 L xs s H) (hb0 : b0 < w.2.2.2) (i : Nat) (hi : i + 6 ≤ L) (hL : L ≤ 144) (bO sl o oL oD : Nat) (S : mS) (hLI : LWI w H bO sl o oL oD S)  (hst : StepI w l yX0_turn cX0_turn 5 [(0, 10, 13, 13)] yX3_turn cX3_turn 5 .int  [.ref bO, .int (iZ (xz xs (i + 1))), .int (iZ (xz xs (i + 2))), .ref oL] [.ref o, .int (iZ (xz xs (i + 1))), .int (iZ (xz xs (i + 2)))] H bO sl o oL oD) (bc bs : Nat) (ls : Array Slot) (hl : lv_has ls 9 [(5, .int (iZ ((i : Nat) : Int))), (0, .ref b0), (1, .ref bO), (2, .ref o), (3, .ref oL), (4, .ref oD)]) (kk : ∀ (H3 : Heap) (S3 : mS) (ls : Array Slot), pb_G w s H3 → va_X b0 L xs s H3 → LWI w H3 bO sl o oL oD S3 → lv_has ls 9 [(5, .int (iZ ((i : Nat) : Int))), (0, .ref b0), (1, .ref bO), (2, .ref o), (3, .ref oL), (4, .ref oD)] → pb_V w.2.2.2 p l e room_1 s m_ #[.ref b0] below meth c H3 bc bs Q (F0 m_ 3538 ls [])) : pb_V w.2.2.2 p l e room_1 s m_ #[.ref b0] below meth c H (bc + 49000) (bs + 228000) Q (F0 m_ 1082 ls []) := by
  obtain ⟨mc, ms, dd, postW, postX, hmc, hms, hdd, hW, h2, h3⟩ := hst
  refine pb_aload_n C dL_law_1082 rfl (lv_at hl 2 rfl) ?_
  refine pb_aload_n C dL_law_1083 rfl (lv_at hl 1 rfl) ?_
  refine pb_iload C dL_law_1084 (lv_at hl 0 rfl) ?_
  refine pb_ic C dL_law_1086 ?_
  refine pb_iadd C dL_law_1087 ?_
  refine pb_sldN C hX (i := (i + 1)) (by omega) dL_law_1088 ?_
  refine pb_aload_n C dL_law_1089 rfl (lv_at hl 1 rfl) ?_
  refine pb_iload C dL_law_1090 (lv_at hl 0 rfl) ?_
  refine pb_ic C dL_law_1092 ?_
  refine pb_iadd C dL_law_1093 ?_
  refine pb_sldN C hX (i := (i + 2)) (by omega) dL_law_1094 ?_
  refine pb_aload_n C dL_law_1095 rfl (lv_at hl 4 rfl) ?_
  refine pb_go_i (bc' := bc + 49000 - mc) (bs' := bs + 228000 - ms) (pb_runSW (rest := []) C hG hN hW (lw_SW q933 q934 q50 q935) hdX0_turn rfl hl.1 rfl (Nat.le_of_ble_eq_true rfl) ⟨(Nat.le_of_ble_eq_true rfl), (Nat.le_of_ble_eq_true rfl)⟩ dL_law_1096) (by omega) (by omega) (fun k_ H2 hp2 => ?_)
  obtain ⟨f2, hkr, ⟨fsO, hOo⟩, hM3⟩ := h2 _ _ hp2
  have hG := hG.kept f2
  have hX := hX.kept (f2.2 _ (by have := hX.lt; omega) hb0)
  refine pb_istore C dL_law_1099 hl (by decide) rfl fun ls hl => ?_
  have hl : lv_has ls 9 [(6, .int (iZ (k_))), (5, .int (iZ (((i : Nat) : Int)))), (0, .ref (b0)), (1, .ref (bO)), (2, .ref (o)), (3, .ref (oL)), (4, .ref (oD))] := hl
  refine pb_aload_n C dL_law_1101 rfl (lv_at hl 4 rfl) ?_
  refine pb_aload_n C dL_law_1102 rfl (lv_at hl 2 rfl) ?_
  refine pb_iload C dL_law_1103 (lv_at hl 1 rfl) ?_
  refine pb_ic C dL_law_1105 ?_
  refine pb_iadd C dL_law_1106 ?_
  refine pb_sldN C hX (i := (i + 1)) (by omega) dL_law_1107 ?_
  refine pb_aload_n C dL_law_1108 rfl (lv_at hl 2 rfl) ?_
  refine pb_iload C dL_law_1109 (lv_at hl 1 rfl) ?_
  refine pb_ic C dL_law_1111 ?_
  refine pb_iadd C dL_law_1112 ?_
  refine pb_sldN C hX (i := (i + 2)) (by omega) dL_law_1113 ?_
  refine pb_go_i (bc' := (bc + 49000 - mc)) (bs' := (bs + 228000 - ms)) (pb_runV (rest := []) C hG (hM3) hOo (ci := 2) rfl (lw_V q1891 q1892 q1893 q60 q1894) ⟨rfl, hdX3_turn⟩ rfl hl.1 rfl (Nat.le_of_ble_eq_true rfl) ⟨show dd + 1 ≤ 27 from by omega, show 8 + (5 + 11) + 64 * dd ≤ 11162 from by omega⟩ dL_law_1114) (by omega) (by omega) (fun z_ H3 hp_ => ?_)
  obtain ⟨f3, S9, hMW9, hk9, hv9, hb9, hLI⟩ := h3 _ _ _ _ hp2 hp_
  have hG := hG.kept f3
  have hX := hX.kept (f3.2 _ (by have := hX.lt; omega) hb0)
  obtain ⟨fsP, hOp⟩ := hMW9.o
  refine pb_istore C dL_law_1117 hl (by decide) rfl fun ls hl => ?_
  have hl : lv_has ls 9 [(7, .int (iZ (z_))), (6, .int (iZ (k_))), (5, .int (iZ (((i : Nat) : Int)))), (0, .ref (b0)), (1, .ref (bO)), (2, .ref (o)), (3, .ref (oL)), (4, .ref (oD))] := hl
  refine pb_aload_n C dL_law_1119 rfl (lv_at hl 5 rfl) ?_
  refine pb_go_x (bc' := (bc + 49000 - mc)) (bs' := (bs + 228000 - ms)) (pb_runV (rest := []) C hG (met_X3_thrown l o S9 hMW9) hOp (ci := 2) rfl (lw_V q1786 q1787 q1788 q60 q1789) ⟨rfl, hdX3_thrown⟩ rfl hl.1 rfl (Nat.le_of_ble_eq_true rfl) ⟨(Nat.le_of_ble_eq_true rfl), (Nat.le_of_ble_eq_true rfl)⟩ dL_law_1120) (by omega) (by omega) ?_
  refine pb_eq (g2 := F0 m_ 1123 ls [.int (iZ (k_))]) (congrArg (fun z9 => F0 m_ 1123 ls [.int (iZ z9)]) (show (S9.1 0) = k_ from hk9)) ?_
  refine pb_iload C dL_law_1123 (lv_at hl 1 rfl) ?_
  refine pb_icmp_eq C dL_law_1125 (x := k_) (y := k_) (tgt := 1130) (by decide) (by omega) (by omega) (fun c1125_ => ?_) (fun c1125_ => ?_)
  · refine pb_iload C dL_law_1130 (lv_at hl 1 rfl) ?_
    refine pb_if_ne C dL_law_1132 (x := k_) (tgt := 1147) (by decide) (by omega) (fun c1132_ => ?_) (fun c1132_ => ?_)
    · refine pb_goto C dL_law_1147 (tgt := 3538) (by decide) ?_
      exact pb_V.mono (by omega) (by omega) (kk H3 S9 ls hG hX hLI (lv_sub hl [2, 3, 4, 5, 6, 7] rfl))
    · obtain ⟨hzr, g9, hA9⟩ := hv9 c1132_
      refine pb_aload_n C dL_law_1135 rfl (lv_at hl 6 rfl) ?_
      refine pb_ic C dL_law_1136 ?_
      refine pb_lald C hA9.b (i := 0) (v := .long (lZ (z_))) (by omega) (if_pos rfl) dL_law_1137 ?_
      refine pb_iload C dL_law_1138 (lv_at hl 0 rfl) ?_
      refine pb_i2l C dL_law_1140 (x := z_) (by omega) ?_
      refine pb_lcmpE C (x := lZ z_) dL_law_1141 ?_
      refine pb_if_eq C dL_law_1142 (x := 0) (tgt := 1147) (by decide) (by omega) (fun c1142_ => ?_) (fun c1142_ => ?_)
      · refine pb_goto C dL_law_1147 (tgt := 3538) (by decide) ?_
        exact pb_V.mono (by omega) (by omega) (kk H3 S9 ls hG hX hLI (lv_sub hl [2, 3, 4, 5, 6, 7] rfl))
      · exact absurd c1142_ (by decide)
  · exact absurd rfl c1125_

set_option maxHeartbeats 1000000 in
theorem blk_mirror {w : pb_W} {p : Program} {l : Launch} {e : Env} {s : State} {m_ : MethodId} {below : List Frame} {meth : Method} {c : Code} {Q : State → Prop} {b0 L : Nat} {xs : Nat → Int32} (C : pb_C w p s m_ meth c #[.ref b0] cL_law 9 RX0 meth.name ret) (hN : pb_Nc s) {H : Heap} (hG : pb_G w s H) (hX : va_X b0 L xs s H) (hb0 : b0 < w.2.2.2) (i : Nat) (hi : i + 6 ≤ L) (hL : L ≤ 144) (bO sl o oL oD : Nat) (S : mS) (hLI : LWI w H bO sl o oL oD S)  (hst : StepI w l yX0_mirror cX0_mirror 5 [(0, 10, 13, 13)] yX3_mirror cX3_mirror 5 .int  [.ref bO, .int (iZ (xz xs (i + 1))), .int (iZ (xz xs (i + 2))), .ref oL] [.ref o, .int (iZ (xz xs (i + 1))), .int (iZ (xz xs (i + 2)))] H bO sl o oL oD) (bc bs : Nat) (ls : Array Slot) (hl : lv_has ls 9 [(5, .int (iZ ((i : Nat) : Int))), (0, .ref b0), (1, .ref bO), (2, .ref o), (3, .ref oL), (4, .ref oD)]) (kk : ∀ (H3 : Heap) (S3 : mS) (ls : Array Slot), pb_G w s H3 → va_X b0 L xs s H3 → LWI w H3 bO sl o oL oD S3 → lv_has ls 9 [(5, .int (iZ ((i : Nat) : Int))), (0, .ref b0), (1, .ref bO), (2, .ref o), (3, .ref oL), (4, .ref oD)] → pb_V w.2.2.2 p l e room_1 s m_ #[.ref b0] below meth c H3 bc bs Q (F0 m_ 3538 ls [])) : pb_V w.2.2.2 p l e room_1 s m_ #[.ref b0] below meth c H (bc + 49000) (bs + 228000) Q (F0 m_ 1150 ls []) := by
  obtain ⟨mc, ms, dd, postW, postX, hmc, hms, hdd, hW, h2, h3⟩ := hst
  refine pb_aload_n C dL_law_1150 rfl (lv_at hl 2 rfl) ?_
  refine pb_aload_n C dL_law_1151 rfl (lv_at hl 1 rfl) ?_
  refine pb_iload C dL_law_1152 (lv_at hl 0 rfl) ?_
  refine pb_ic C dL_law_1154 ?_
  refine pb_iadd C dL_law_1155 ?_
  refine pb_sldN C hX (i := (i + 1)) (by omega) dL_law_1156 ?_
  refine pb_aload_n C dL_law_1157 rfl (lv_at hl 1 rfl) ?_
  refine pb_iload C dL_law_1158 (lv_at hl 0 rfl) ?_
  refine pb_ic C dL_law_1160 ?_
  refine pb_iadd C dL_law_1161 ?_
  refine pb_sldN C hX (i := (i + 2)) (by omega) dL_law_1162 ?_
  refine pb_aload_n C dL_law_1163 rfl (lv_at hl 4 rfl) ?_
  refine pb_go_i (bc' := bc + 49000 - mc) (bs' := bs + 228000 - ms) (pb_runSW (rest := []) C hG hN hW (lw_SW q949 q950 q50 q951) hdX0_mirror rfl hl.1 rfl (Nat.le_of_ble_eq_true rfl) ⟨(Nat.le_of_ble_eq_true rfl), (Nat.le_of_ble_eq_true rfl)⟩ dL_law_1164) (by omega) (by omega) (fun k_ H2 hp2 => ?_)
  obtain ⟨f2, hkr, ⟨fsO, hOo⟩, hM3⟩ := h2 _ _ hp2
  have hG := hG.kept f2
  have hX := hX.kept (f2.2 _ (by have := hX.lt; omega) hb0)
  refine pb_istore C dL_law_1167 hl (by decide) rfl fun ls hl => ?_
  have hl : lv_has ls 9 [(6, .int (iZ (k_))), (5, .int (iZ (((i : Nat) : Int)))), (0, .ref (b0)), (1, .ref (bO)), (2, .ref (o)), (3, .ref (oL)), (4, .ref (oD))] := hl
  refine pb_aload_n C dL_law_1169 rfl (lv_at hl 4 rfl) ?_
  refine pb_aload_n C dL_law_1170 rfl (lv_at hl 2 rfl) ?_
  refine pb_iload C dL_law_1171 (lv_at hl 1 rfl) ?_
  refine pb_ic C dL_law_1173 ?_
  refine pb_iadd C dL_law_1174 ?_
  refine pb_sldN C hX (i := (i + 1)) (by omega) dL_law_1175 ?_
  refine pb_aload_n C dL_law_1176 rfl (lv_at hl 2 rfl) ?_
  refine pb_iload C dL_law_1177 (lv_at hl 1 rfl) ?_
  refine pb_ic C dL_law_1179 ?_
  refine pb_iadd C dL_law_1180 ?_
  refine pb_sldN C hX (i := (i + 2)) (by omega) dL_law_1181 ?_
  refine pb_go_i (bc' := (bc + 49000 - mc)) (bs' := (bs + 228000 - ms)) (pb_runV (rest := []) C hG (hM3) hOo (ci := 2) rfl (lw_V q1895 q1896 q1897 q60 q1898) ⟨rfl, hdX3_mirror⟩ rfl hl.1 rfl (Nat.le_of_ble_eq_true rfl) ⟨show dd + 1 ≤ 27 from by omega, show 8 + (5 + 11) + 64 * dd ≤ 11162 from by omega⟩ dL_law_1182) (by omega) (by omega) (fun z_ H3 hp_ => ?_)
  obtain ⟨f3, S9, hMW9, hk9, hv9, hb9, hLI⟩ := h3 _ _ _ _ hp2 hp_
  have hG := hG.kept f3
  have hX := hX.kept (f3.2 _ (by have := hX.lt; omega) hb0)
  obtain ⟨fsP, hOp⟩ := hMW9.o
  refine pb_istore C dL_law_1185 hl (by decide) rfl fun ls hl => ?_
  have hl : lv_has ls 9 [(7, .int (iZ (z_))), (6, .int (iZ (k_))), (5, .int (iZ (((i : Nat) : Int)))), (0, .ref (b0)), (1, .ref (bO)), (2, .ref (o)), (3, .ref (oL)), (4, .ref (oD))] := hl
  refine pb_aload_n C dL_law_1187 rfl (lv_at hl 5 rfl) ?_
  refine pb_go_x (bc' := (bc + 49000 - mc)) (bs' := (bs + 228000 - ms)) (pb_runV (rest := []) C hG (met_X3_thrown l o S9 hMW9) hOp (ci := 2) rfl (lw_V q1786 q1787 q1788 q60 q1789) ⟨rfl, hdX3_thrown⟩ rfl hl.1 rfl (Nat.le_of_ble_eq_true rfl) ⟨(Nat.le_of_ble_eq_true rfl), (Nat.le_of_ble_eq_true rfl)⟩ dL_law_1188) (by omega) (by omega) ?_
  refine pb_eq (g2 := F0 m_ 1191 ls [.int (iZ (k_))]) (congrArg (fun z9 => F0 m_ 1191 ls [.int (iZ z9)]) (show (S9.1 0) = k_ from hk9)) ?_
  refine pb_iload C dL_law_1191 (lv_at hl 1 rfl) ?_
  refine pb_icmp_eq C dL_law_1193 (x := k_) (y := k_) (tgt := 1198) (by decide) (by omega) (by omega) (fun c1193_ => ?_) (fun c1193_ => ?_)
  · refine pb_iload C dL_law_1198 (lv_at hl 1 rfl) ?_
    refine pb_if_ne C dL_law_1200 (x := k_) (tgt := 1215) (by decide) (by omega) (fun c1200_ => ?_) (fun c1200_ => ?_)
    · refine pb_goto C dL_law_1215 (tgt := 3538) (by decide) ?_
      exact pb_V.mono (by omega) (by omega) (kk H3 S9 ls hG hX hLI (lv_sub hl [2, 3, 4, 5, 6, 7] rfl))
    · obtain ⟨hzr, g9, hA9⟩ := hv9 c1200_
      refine pb_aload_n C dL_law_1203 rfl (lv_at hl 6 rfl) ?_
      refine pb_ic C dL_law_1204 ?_
      refine pb_lald C hA9.b (i := 0) (v := .long (lZ (z_))) (by omega) (if_pos rfl) dL_law_1205 ?_
      refine pb_iload C dL_law_1206 (lv_at hl 0 rfl) ?_
      refine pb_i2l C dL_law_1208 (x := z_) (by omega) ?_
      refine pb_lcmpE C (x := lZ z_) dL_law_1209 ?_
      refine pb_if_eq C dL_law_1210 (x := 0) (tgt := 1215) (by decide) (by omega) (fun c1210_ => ?_) (fun c1210_ => ?_)
      · refine pb_goto C dL_law_1215 (tgt := 3538) (by decide) ?_
        exact pb_V.mono (by omega) (by omega) (kk H3 S9 ls hG hX hLI (lv_sub hl [2, 3, 4, 5, 6, 7] rfl))
      · exact absurd c1210_ (by decide)
  · exact absurd rfl c1193_

set_option maxHeartbeats 1000000 in
theorem blk_fillHoles {w : pb_W} {p : Program} {l : Launch} {e : Env} {s : State} {m_ : MethodId} {below : List Frame} {meth : Method} {c : Code} {Q : State → Prop} {b0 L : Nat} {xs : Nat → Int32} (C : pb_C w p s m_ meth c #[.ref b0] cL_law 9 RX0 meth.name ret) (hN : pb_Nc s) {H : Heap} (hG : pb_G w s H) (hX : va_X b0 L xs s H) (hb0 : b0 < w.2.2.2) (i : Nat) (hi : i + 6 ≤ L) (hL : L ≤ 144) (bO sl o oL oD : Nat) (S : mS) (hLI : LWI w H bO sl o oL oD S)  (hst : StepI w l yX0_fillHoles cX0_fillHoles 5 [(0, 10, 13, 13)] yX3_fillHoles cX3_fillHoles 4 .int  [.ref bO, .int (iZ (xz xs (i + 1))), .int (iZ (xz xs (i + 2))), .ref oL] [.ref o, .int (iZ (xz xs (i + 1))), .int (iZ (xz xs (i + 2)))] H bO sl o oL oD) (bc bs : Nat) (ls : Array Slot) (hl : lv_has ls 9 [(5, .int (iZ ((i : Nat) : Int))), (0, .ref b0), (1, .ref bO), (2, .ref o), (3, .ref oL), (4, .ref oD)]) (kk : ∀ (H3 : Heap) (S3 : mS) (ls : Array Slot), pb_G w s H3 → va_X b0 L xs s H3 → LWI w H3 bO sl o oL oD S3 → lv_has ls 9 [(5, .int (iZ ((i : Nat) : Int))), (0, .ref b0), (1, .ref bO), (2, .ref o), (3, .ref oL), (4, .ref oD)] → pb_V w.2.2.2 p l e room_1 s m_ #[.ref b0] below meth c H3 bc bs Q (F0 m_ 3538 ls [])) : pb_V w.2.2.2 p l e room_1 s m_ #[.ref b0] below meth c H (bc + 49000) (bs + 228000) Q (F0 m_ 1218 ls []) := by
  obtain ⟨mc, ms, dd, postW, postX, hmc, hms, hdd, hW, h2, h3⟩ := hst
  refine pb_aload_n C dL_law_1218 rfl (lv_at hl 2 rfl) ?_
  refine pb_aload_n C dL_law_1219 rfl (lv_at hl 1 rfl) ?_
  refine pb_iload C dL_law_1220 (lv_at hl 0 rfl) ?_
  refine pb_ic C dL_law_1222 ?_
  refine pb_iadd C dL_law_1223 ?_
  refine pb_sldN C hX (i := (i + 1)) (by omega) dL_law_1224 ?_
  refine pb_aload_n C dL_law_1225 rfl (lv_at hl 1 rfl) ?_
  refine pb_iload C dL_law_1226 (lv_at hl 0 rfl) ?_
  refine pb_ic C dL_law_1228 ?_
  refine pb_iadd C dL_law_1229 ?_
  refine pb_sldN C hX (i := (i + 2)) (by omega) dL_law_1230 ?_
  refine pb_aload_n C dL_law_1231 rfl (lv_at hl 4 rfl) ?_
  refine pb_go_i (bc' := bc + 49000 - mc) (bs' := bs + 228000 - ms) (pb_runSW (rest := []) C hG hN hW (lw_SW q964 q965 q50 q966) hdX0_fillHoles rfl hl.1 rfl (Nat.le_of_ble_eq_true rfl) ⟨(Nat.le_of_ble_eq_true rfl), (Nat.le_of_ble_eq_true rfl)⟩ dL_law_1232) (by omega) (by omega) (fun k_ H2 hp2 => ?_)
  obtain ⟨f2, hkr, ⟨fsO, hOo⟩, hM3⟩ := h2 _ _ hp2
  have hG := hG.kept f2
  have hX := hX.kept (f2.2 _ (by have := hX.lt; omega) hb0)
  refine pb_istore C dL_law_1235 hl (by decide) rfl fun ls hl => ?_
  have hl : lv_has ls 9 [(6, .int (iZ (k_))), (5, .int (iZ (((i : Nat) : Int)))), (0, .ref (b0)), (1, .ref (bO)), (2, .ref (o)), (3, .ref (oL)), (4, .ref (oD))] := hl
  refine pb_aload_n C dL_law_1237 rfl (lv_at hl 4 rfl) ?_
  refine pb_aload_n C dL_law_1238 rfl (lv_at hl 2 rfl) ?_
  refine pb_iload C dL_law_1239 (lv_at hl 1 rfl) ?_
  refine pb_ic C dL_law_1241 ?_
  refine pb_iadd C dL_law_1242 ?_
  refine pb_sldN C hX (i := (i + 1)) (by omega) dL_law_1243 ?_
  refine pb_aload_n C dL_law_1244 rfl (lv_at hl 2 rfl) ?_
  refine pb_iload C dL_law_1245 (lv_at hl 1 rfl) ?_
  refine pb_ic C dL_law_1247 ?_
  refine pb_iadd C dL_law_1248 ?_
  refine pb_sldN C hX (i := (i + 2)) (by omega) dL_law_1249 ?_
  refine pb_go_i (bc' := (bc + 49000 - mc)) (bs' := (bs + 228000 - ms)) (pb_runV (rest := []) C hG (hM3) hOo (ci := 2) rfl (lw_V q1899 q1900 q1901 q60 q1902) ⟨rfl, hdX3_fillHoles⟩ rfl hl.1 rfl (Nat.le_of_ble_eq_true rfl) ⟨show dd + 1 ≤ 27 from by omega, show 8 + (4 + 11) + 64 * dd ≤ 11162 from by omega⟩ dL_law_1250) (by omega) (by omega) (fun z_ H3 hp_ => ?_)
  obtain ⟨f3, S9, hMW9, hk9, hv9, hb9, hLI⟩ := h3 _ _ _ _ hp2 hp_
  have hG := hG.kept f3
  have hX := hX.kept (f3.2 _ (by have := hX.lt; omega) hb0)
  obtain ⟨fsP, hOp⟩ := hMW9.o
  refine pb_istore C dL_law_1253 hl (by decide) rfl fun ls hl => ?_
  have hl : lv_has ls 9 [(7, .int (iZ (z_))), (6, .int (iZ (k_))), (5, .int (iZ (((i : Nat) : Int)))), (0, .ref (b0)), (1, .ref (bO)), (2, .ref (o)), (3, .ref (oL)), (4, .ref (oD))] := hl
  refine pb_aload_n C dL_law_1255 rfl (lv_at hl 5 rfl) ?_
  refine pb_go_x (bc' := (bc + 49000 - mc)) (bs' := (bs + 228000 - ms)) (pb_runV (rest := []) C hG (met_X3_thrown l o S9 hMW9) hOp (ci := 2) rfl (lw_V q1786 q1787 q1788 q60 q1789) ⟨rfl, hdX3_thrown⟩ rfl hl.1 rfl (Nat.le_of_ble_eq_true rfl) ⟨(Nat.le_of_ble_eq_true rfl), (Nat.le_of_ble_eq_true rfl)⟩ dL_law_1256) (by omega) (by omega) ?_
  refine pb_eq (g2 := F0 m_ 1259 ls [.int (iZ (k_))]) (congrArg (fun z9 => F0 m_ 1259 ls [.int (iZ z9)]) (show (S9.1 0) = k_ from hk9)) ?_
  refine pb_iload C dL_law_1259 (lv_at hl 1 rfl) ?_
  refine pb_icmp_eq C dL_law_1261 (x := k_) (y := k_) (tgt := 1266) (by decide) (by omega) (by omega) (fun c1261_ => ?_) (fun c1261_ => ?_)
  · refine pb_iload C dL_law_1266 (lv_at hl 1 rfl) ?_
    refine pb_if_ne C dL_law_1268 (x := k_) (tgt := 1283) (by decide) (by omega) (fun c1268_ => ?_) (fun c1268_ => ?_)
    · refine pb_goto C dL_law_1283 (tgt := 3538) (by decide) ?_
      exact pb_V.mono (by omega) (by omega) (kk H3 S9 ls hG hX hLI (lv_sub hl [2, 3, 4, 5, 6, 7] rfl))
    · obtain ⟨hzr, g9, hA9⟩ := hv9 c1268_
      refine pb_aload_n C dL_law_1271 rfl (lv_at hl 6 rfl) ?_
      refine pb_ic C dL_law_1272 ?_
      refine pb_lald C hA9.b (i := 0) (v := .long (lZ (z_))) (by omega) (if_pos rfl) dL_law_1273 ?_
      refine pb_iload C dL_law_1274 (lv_at hl 0 rfl) ?_
      refine pb_i2l C dL_law_1276 (x := z_) (by omega) ?_
      refine pb_lcmpE C (x := lZ z_) dL_law_1277 ?_
      refine pb_if_eq C dL_law_1278 (x := 0) (tgt := 1283) (by decide) (by omega) (fun c1278_ => ?_) (fun c1278_ => ?_)
      · refine pb_goto C dL_law_1283 (tgt := 3538) (by decide) ?_
        exact pb_V.mono (by omega) (by omega) (kk H3 S9 ls hG hX hLI (lv_sub hl [2, 3, 4, 5, 6, 7] rfl))
      · exact absurd c1278_ (by decide)
  · exact absurd rfl c1261_

set_option maxHeartbeats 1000000 in
theorem blk_keepPart {w : pb_W} {p : Program} {l : Launch} {e : Env} {s : State} {m_ : MethodId} {below : List Frame} {meth : Method} {c : Code} {Q : State → Prop} {b0 L : Nat} {xs : Nat → Int32} (C : pb_C w p s m_ meth c #[.ref b0] cL_law 9 RX0 meth.name ret) (hN : pb_Nc s) {H : Heap} (hG : pb_G w s H) (hX : va_X b0 L xs s H) (hb0 : b0 < w.2.2.2) (i : Nat) (hi : i + 6 ≤ L) (hL : L ≤ 144) (bO sl o oL oD : Nat) (S : mS) (hLI : LWI w H bO sl o oL oD S)  (hst : StepI w l yX0_keepPart cX0_keepPart 7 [(0, 14, 17, 13), (0, 14, 21, 15), (0, 14, 25, 64)] yX3_keepPart cX3_keepPart 6 .int  [.ref bO, .int (iZ (xz xs (i + 1))), .int (iZ (xz xs (i + 2))), .int (iZ (xz xs (i + 3))), .int (iZ (xz xs (i + 4))), .ref oL] [.ref o, .int (iZ (xz xs (i + 1))), .int (iZ (xz xs (i + 2))), .int (iZ (xz xs (i + 3))), .int (iZ (xz xs (i + 4)))] H bO sl o oL oD) (bc bs : Nat) (ls : Array Slot) (hl : lv_has ls 9 [(5, .int (iZ ((i : Nat) : Int))), (0, .ref b0), (1, .ref bO), (2, .ref o), (3, .ref oL), (4, .ref oD)]) (kk : ∀ (H3 : Heap) (S3 : mS) (ls : Array Slot), pb_G w s H3 → va_X b0 L xs s H3 → LWI w H3 bO sl o oL oD S3 → lv_has ls 9 [(5, .int (iZ ((i : Nat) : Int))), (0, .ref b0), (1, .ref bO), (2, .ref o), (3, .ref oL), (4, .ref oD)] → pb_V w.2.2.2 p l e room_1 s m_ #[.ref b0] below meth c H3 bc bs Q (F0 m_ 3538 ls [])) : pb_V w.2.2.2 p l e room_1 s m_ #[.ref b0] below meth c H (bc + 49000) (bs + 228000) Q (F0 m_ 1286 ls []) := by
  obtain ⟨mc, ms, dd, postW, postX, hmc, hms, hdd, hW, h2, h3⟩ := hst
  refine pb_aload_n C dL_law_1286 rfl (lv_at hl 2 rfl) ?_
  refine pb_aload_n C dL_law_1287 rfl (lv_at hl 1 rfl) ?_
  refine pb_iload C dL_law_1288 (lv_at hl 0 rfl) ?_
  refine pb_ic C dL_law_1290 ?_
  refine pb_iadd C dL_law_1291 ?_
  refine pb_sldN C hX (i := (i + 1)) (by omega) dL_law_1292 ?_
  refine pb_aload_n C dL_law_1293 rfl (lv_at hl 1 rfl) ?_
  refine pb_iload C dL_law_1294 (lv_at hl 0 rfl) ?_
  refine pb_ic C dL_law_1296 ?_
  refine pb_iadd C dL_law_1297 ?_
  refine pb_sldN C hX (i := (i + 2)) (by omega) dL_law_1298 ?_
  refine pb_aload_n C dL_law_1299 rfl (lv_at hl 1 rfl) ?_
  refine pb_iload C dL_law_1300 (lv_at hl 0 rfl) ?_
  refine pb_ic C dL_law_1302 ?_
  refine pb_iadd C dL_law_1303 ?_
  refine pb_sldN C hX (i := (i + 3)) (by omega) dL_law_1304 ?_
  refine pb_aload_n C dL_law_1305 rfl (lv_at hl 1 rfl) ?_
  refine pb_iload C dL_law_1306 (lv_at hl 0 rfl) ?_
  refine pb_ic C dL_law_1308 ?_
  refine pb_iadd C dL_law_1309 ?_
  refine pb_sldN C hX (i := (i + 4)) (by omega) dL_law_1310 ?_
  refine pb_aload_n C dL_law_1311 rfl (lv_at hl 4 rfl) ?_
  refine pb_go_i (bc' := bc + 49000 - mc) (bs' := bs + 228000 - ms) (pb_runSW (rest := []) C hG hN hW (lw_SW q1042 q1043 q50 q1044) hdX0_keepPart rfl hl.1 rfl (Nat.le_of_ble_eq_true rfl) ⟨(Nat.le_of_ble_eq_true rfl), (Nat.le_of_ble_eq_true rfl)⟩ dL_law_1312) (by omega) (by omega) (fun k_ H2 hp2 => ?_)
  obtain ⟨f2, hkr, ⟨fsO, hOo⟩, hM3⟩ := h2 _ _ hp2
  have hG := hG.kept f2
  have hX := hX.kept (f2.2 _ (by have := hX.lt; omega) hb0)
  refine pb_istore C dL_law_1315 hl (by decide) rfl fun ls hl => ?_
  have hl : lv_has ls 9 [(6, .int (iZ (k_))), (5, .int (iZ (((i : Nat) : Int)))), (0, .ref (b0)), (1, .ref (bO)), (2, .ref (o)), (3, .ref (oL)), (4, .ref (oD))] := hl
  refine pb_aload_n C dL_law_1317 rfl (lv_at hl 4 rfl) ?_
  refine pb_aload_n C dL_law_1318 rfl (lv_at hl 2 rfl) ?_
  refine pb_iload C dL_law_1319 (lv_at hl 1 rfl) ?_
  refine pb_ic C dL_law_1321 ?_
  refine pb_iadd C dL_law_1322 ?_
  refine pb_sldN C hX (i := (i + 1)) (by omega) dL_law_1323 ?_
  refine pb_aload_n C dL_law_1324 rfl (lv_at hl 2 rfl) ?_
  refine pb_iload C dL_law_1325 (lv_at hl 1 rfl) ?_
  refine pb_ic C dL_law_1327 ?_
  refine pb_iadd C dL_law_1328 ?_
  refine pb_sldN C hX (i := (i + 2)) (by omega) dL_law_1329 ?_
  refine pb_aload_n C dL_law_1330 rfl (lv_at hl 2 rfl) ?_
  refine pb_iload C dL_law_1331 (lv_at hl 1 rfl) ?_
  refine pb_ic C dL_law_1333 ?_
  refine pb_iadd C dL_law_1334 ?_
  refine pb_sldN C hX (i := (i + 3)) (by omega) dL_law_1335 ?_
  refine pb_aload_n C dL_law_1336 rfl (lv_at hl 2 rfl) ?_
  refine pb_iload C dL_law_1337 (lv_at hl 1 rfl) ?_
  refine pb_ic C dL_law_1339 ?_
  refine pb_iadd C dL_law_1340 ?_
  refine pb_sldN C hX (i := (i + 4)) (by omega) dL_law_1341 ?_
  refine pb_go_i (bc' := (bc + 49000 - mc)) (bs' := (bs + 228000 - ms)) (pb_runV (rest := []) C hG (hM3) hOo (ci := 2) rfl (lw_V q1917 q1918 q1919 q60 q1920) ⟨rfl, hdX3_keepPart⟩ rfl hl.1 rfl (Nat.le_of_ble_eq_true rfl) ⟨show dd + 1 ≤ 27 from by omega, show 8 + (6 + 11) + 64 * dd ≤ 11162 from by omega⟩ dL_law_1342) (by omega) (by omega) (fun z_ H3 hp_ => ?_)
  obtain ⟨f3, S9, hMW9, hk9, hv9, hb9, hLI⟩ := h3 _ _ _ _ hp2 hp_
  have hG := hG.kept f3
  have hX := hX.kept (f3.2 _ (by have := hX.lt; omega) hb0)
  obtain ⟨fsP, hOp⟩ := hMW9.o
  refine pb_istore C dL_law_1345 hl (by decide) rfl fun ls hl => ?_
  have hl : lv_has ls 9 [(7, .int (iZ (z_))), (6, .int (iZ (k_))), (5, .int (iZ (((i : Nat) : Int)))), (0, .ref (b0)), (1, .ref (bO)), (2, .ref (o)), (3, .ref (oL)), (4, .ref (oD))] := hl
  refine pb_aload_n C dL_law_1347 rfl (lv_at hl 5 rfl) ?_
  refine pb_go_x (bc' := (bc + 49000 - mc)) (bs' := (bs + 228000 - ms)) (pb_runV (rest := []) C hG (met_X3_thrown l o S9 hMW9) hOp (ci := 2) rfl (lw_V q1786 q1787 q1788 q60 q1789) ⟨rfl, hdX3_thrown⟩ rfl hl.1 rfl (Nat.le_of_ble_eq_true rfl) ⟨(Nat.le_of_ble_eq_true rfl), (Nat.le_of_ble_eq_true rfl)⟩ dL_law_1348) (by omega) (by omega) ?_
  refine pb_eq (g2 := F0 m_ 1351 ls [.int (iZ (k_))]) (congrArg (fun z9 => F0 m_ 1351 ls [.int (iZ z9)]) (show (S9.1 0) = k_ from hk9)) ?_
  refine pb_iload C dL_law_1351 (lv_at hl 1 rfl) ?_
  refine pb_icmp_eq C dL_law_1353 (x := k_) (y := k_) (tgt := 1358) (by decide) (by omega) (by omega) (fun c1353_ => ?_) (fun c1353_ => ?_)
  · refine pb_iload C dL_law_1358 (lv_at hl 1 rfl) ?_
    refine pb_if_ne C dL_law_1360 (x := k_) (tgt := 1375) (by decide) (by omega) (fun c1360_ => ?_) (fun c1360_ => ?_)
    · refine pb_goto C dL_law_1375 (tgt := 3538) (by decide) ?_
      exact pb_V.mono (by omega) (by omega) (kk H3 S9 ls hG hX hLI (lv_sub hl [2, 3, 4, 5, 6, 7] rfl))
    · obtain ⟨hzr, g9, hA9⟩ := hv9 c1360_
      refine pb_aload_n C dL_law_1363 rfl (lv_at hl 6 rfl) ?_
      refine pb_ic C dL_law_1364 ?_
      refine pb_lald C hA9.b (i := 0) (v := .long (lZ (z_))) (by omega) (if_pos rfl) dL_law_1365 ?_
      refine pb_iload C dL_law_1366 (lv_at hl 0 rfl) ?_
      refine pb_i2l C dL_law_1368 (x := z_) (by omega) ?_
      refine pb_lcmpE C (x := lZ z_) dL_law_1369 ?_
      refine pb_if_eq C dL_law_1370 (x := 0) (tgt := 1375) (by decide) (by omega) (fun c1370_ => ?_) (fun c1370_ => ?_)
      · refine pb_goto C dL_law_1375 (tgt := 3538) (by decide) ?_
        exact pb_V.mono (by omega) (by omega) (kk H3 S9 ls hG hX hLI (lv_sub hl [2, 3, 4, 5, 6, 7] rfl))
      · exact absurd c1370_ (by decide)
  · exact absurd rfl c1353_

set_option maxHeartbeats 1000000 in
theorem blk_contains {w : pb_W} {p : Program} {l : Launch} {e : Env} {s : State} {m_ : MethodId} {below : List Frame} {meth : Method} {c : Code} {Q : State → Prop} {b0 L : Nat} {xs : Nat → Int32} (C : pb_C w p s m_ meth c #[.ref b0] cL_law 9 RX0 meth.name ret) (hN : pb_Nc s) {H : Heap} (hG : pb_G w s H) (hX : va_X b0 L xs s H) (hb0 : b0 < w.2.2.2) (i : Nat) (hi : i + 6 ≤ L) (hL : L ≤ 144) (bO sl o oL oD : Nat) (S : mS) (hLI : LWI w H bO sl o oL oD S)  (hst : StepI w l yX0_contains cX0_contains 6 [(0, 19, 22, 13), (0, 19, 26, 15)] yX3_contains cX3_contains 4 .boolean  [.ref bO, .int (iZ (xz xs (i + 1))), .int (iZ (xz xs (i + 2))), .int (iZ (xz xs (i + 3))), .ref oL] [.ref o, .int (iZ (xz xs (i + 1))), .int (iZ (xz xs (i + 2))), .int (iZ (xz xs (i + 3)))] H bO sl o oL oD) (bc bs : Nat) (ls : Array Slot) (hl : lv_has ls 9 [(5, .int (iZ ((i : Nat) : Int))), (0, .ref b0), (1, .ref bO), (2, .ref o), (3, .ref oL), (4, .ref oD)]) (kk : ∀ (H3 : Heap) (S3 : mS) (ls : Array Slot), pb_G w s H3 → va_X b0 L xs s H3 → LWI w H3 bO sl o oL oD S3 → lv_has ls 9 [(5, .int (iZ ((i : Nat) : Int))), (0, .ref b0), (1, .ref bO), (2, .ref o), (3, .ref oL), (4, .ref oD)] → pb_V w.2.2.2 p l e room_1 s m_ #[.ref b0] below meth c H3 bc bs Q (F0 m_ 3538 ls [])) : pb_V w.2.2.2 p l e room_1 s m_ #[.ref b0] below meth c H (bc + 49000) (bs + 228000) Q (F0 m_ 1391 ls []) := by
  obtain ⟨mc, ms, dd, postW, postX, hmc, hms, hdd, hW, h2, h3⟩ := hst
  refine pb_aload_n C dL_law_1391 rfl (lv_at hl 2 rfl) ?_
  refine pb_aload_n C dL_law_1392 rfl (lv_at hl 1 rfl) ?_
  refine pb_iload C dL_law_1393 (lv_at hl 0 rfl) ?_
  refine pb_ic C dL_law_1395 ?_
  refine pb_iadd C dL_law_1396 ?_
  refine pb_sldN C hX (i := (i + 1)) (by omega) dL_law_1397 ?_
  refine pb_aload_n C dL_law_1398 rfl (lv_at hl 1 rfl) ?_
  refine pb_iload C dL_law_1399 (lv_at hl 0 rfl) ?_
  refine pb_ic C dL_law_1401 ?_
  refine pb_iadd C dL_law_1402 ?_
  refine pb_sldN C hX (i := (i + 2)) (by omega) dL_law_1403 ?_
  refine pb_aload_n C dL_law_1404 rfl (lv_at hl 1 rfl) ?_
  refine pb_iload C dL_law_1405 (lv_at hl 0 rfl) ?_
  refine pb_ic C dL_law_1407 ?_
  refine pb_iadd C dL_law_1408 ?_
  refine pb_sldN C hX (i := (i + 3)) (by omega) dL_law_1409 ?_
  refine pb_aload_n C dL_law_1410 rfl (lv_at hl 4 rfl) ?_
  refine pb_go_i (bc' := bc + 49000 - mc) (bs' := bs + 228000 - ms) (pb_runSW (rest := []) C hG hN hW (lw_SW q1101 q1102 q50 q1103) hdX0_contains rfl hl.1 rfl (Nat.le_of_ble_eq_true rfl) ⟨(Nat.le_of_ble_eq_true rfl), (Nat.le_of_ble_eq_true rfl)⟩ dL_law_1411) (by omega) (by omega) (fun k_ H2 hp2 => ?_)
  obtain ⟨f2, hkr, ⟨fsO, hOo⟩, hM3⟩ := h2 _ _ hp2
  have hG := hG.kept f2
  have hX := hX.kept (f2.2 _ (by have := hX.lt; omega) hb0)
  refine pb_istore C dL_law_1414 hl (by decide) rfl fun ls hl => ?_
  have hl : lv_has ls 9 [(6, .int (iZ (k_))), (5, .int (iZ (((i : Nat) : Int)))), (0, .ref (b0)), (1, .ref (bO)), (2, .ref (o)), (3, .ref (oL)), (4, .ref (oD))] := hl
  refine pb_aload_n C dL_law_1416 rfl (lv_at hl 4 rfl) ?_
  refine pb_aload_n C dL_law_1417 rfl (lv_at hl 2 rfl) ?_
  refine pb_iload C dL_law_1418 (lv_at hl 1 rfl) ?_
  refine pb_ic C dL_law_1420 ?_
  refine pb_iadd C dL_law_1421 ?_
  refine pb_sldN C hX (i := (i + 1)) (by omega) dL_law_1422 ?_
  refine pb_aload_n C dL_law_1423 rfl (lv_at hl 2 rfl) ?_
  refine pb_iload C dL_law_1424 (lv_at hl 1 rfl) ?_
  refine pb_ic C dL_law_1426 ?_
  refine pb_iadd C dL_law_1427 ?_
  refine pb_sldN C hX (i := (i + 2)) (by omega) dL_law_1428 ?_
  refine pb_aload_n C dL_law_1429 rfl (lv_at hl 2 rfl) ?_
  refine pb_iload C dL_law_1430 (lv_at hl 1 rfl) ?_
  refine pb_ic C dL_law_1432 ?_
  refine pb_iadd C dL_law_1433 ?_
  refine pb_sldN C hX (i := (i + 3)) (by omega) dL_law_1434 ?_
  refine pb_go_i (bc' := (bc + 49000 - mc)) (bs' := (bs + 228000 - ms)) (pb_runV (rest := []) C hG (hM3) hOo (ci := 2) rfl (lw_V q1929 q1930 q1931 q60 q1932) ⟨rfl, hdX3_contains⟩ rfl hl.1 rfl (Nat.le_of_ble_eq_true rfl) ⟨show dd + 1 ≤ 27 from by omega, show 8 + (4 + 11) + 64 * dd ≤ 11162 from by omega⟩ dL_law_1435) (by omega) (by omega) (fun z_ H3 hp_ => ?_)
  obtain ⟨f3, S9, hMW9, hk9, hv9, hb9, hLI⟩ := h3 _ _ _ _ hp2 hp_
  have hG := hG.kept f3
  have hX := hX.kept (f3.2 _ (by have := hX.lt; omega) hb0)
  obtain ⟨fsP, hOp⟩ := hMW9.o
  refine pb_istore C dL_law_1438 hl (by decide) rfl fun ls hl => ?_
  have hl : lv_has ls 9 [(7, .int (iZ (z_))), (6, .int (iZ (k_))), (5, .int (iZ (((i : Nat) : Int)))), (0, .ref (b0)), (1, .ref (bO)), (2, .ref (o)), (3, .ref (oL)), (4, .ref (oD))] := hl
  refine pb_aload_n C dL_law_1440 rfl (lv_at hl 5 rfl) ?_
  refine pb_go_x (bc' := (bc + 49000 - mc)) (bs' := (bs + 228000 - ms)) (pb_runV (rest := []) C hG (met_X3_thrown l o S9 hMW9) hOp (ci := 2) rfl (lw_V q1786 q1787 q1788 q60 q1789) ⟨rfl, hdX3_thrown⟩ rfl hl.1 rfl (Nat.le_of_ble_eq_true rfl) ⟨(Nat.le_of_ble_eq_true rfl), (Nat.le_of_ble_eq_true rfl)⟩ dL_law_1441) (by omega) (by omega) ?_
  refine pb_eq (g2 := F0 m_ 1444 ls [.int (iZ (k_))]) (congrArg (fun z9 => F0 m_ 1444 ls [.int (iZ z9)]) (show (S9.1 0) = k_ from hk9)) ?_
  refine pb_iload C dL_law_1444 (lv_at hl 1 rfl) ?_
  refine pb_icmp_eq C dL_law_1446 (x := k_) (y := k_) (tgt := 1451) (by decide) (by omega) (by omega) (fun c1446_ => ?_) (fun c1446_ => ?_)
  · refine pb_iload C dL_law_1451 (lv_at hl 1 rfl) ?_
    refine pb_if_ne C dL_law_1453 (x := k_) (tgt := 1475) (by decide) (by omega) (fun c1453_ => ?_) (fun c1453_ => ?_)
    · refine pb_goto C dL_law_1475 (tgt := 3538) (by decide) ?_
      exact pb_V.mono (by omega) (by omega) (kk H3 S9 ls hG hX hLI (lv_sub hl [2, 3, 4, 5, 6, 7] rfl))
    · obtain ⟨hzr, g9, hA9⟩ := hv9 c1453_
      refine pb_aload_n C dL_law_1456 rfl (lv_at hl 6 rfl) ?_
      refine pb_ic C dL_law_1457 ?_
      refine pb_lald C hA9.b (i := 0) (v := .long (lZ (z_))) (by omega) (if_pos rfl) dL_law_1458 ?_
      refine pb_iload C dL_law_1459 (lv_at hl 0 rfl) ?_
      refine pb_if_eq C dL_law_1461 (x := z_) (tgt := 1468) (by decide) (by omega) (fun c1461_ => ?_) (fun c1461_ => ?_)
      · obtain rfl : z_ = 0 := c1461_
        refine pb_lc C dL_law_1468 (0) (by decide +kernel) ?_
        refine pb_lcmpE C (x := lZ 0) dL_law_1469 ?_
        refine pb_if_eq C dL_law_1470 (x := 0) (tgt := 1475) (by decide) (by omega) (fun c1470_ => ?_) (fun c1470_ => ?_)
        · refine pb_goto C dL_law_1475 (tgt := 3538) (by decide) ?_
          exact pb_V.mono (by omega) (by omega) (kk H3 S9 ls hG hX hLI (lv_sub hl [2, 3, 4, 5, 6, 7] rfl))
        · exact absurd c1470_ (by decide)
      · have hz9 := hb9 c1453_ rfl
        obtain rfl : z_ = 1 := by omega
        refine pb_lc C dL_law_1464 (1) (by decide +kernel) ?_
        refine pb_goto C dL_law_1465 (tgt := 1469) (by decide) ?_
        refine pb_lcmpE C (x := lZ 1) dL_law_1469 ?_
        refine pb_if_eq C dL_law_1470 (x := 0) (tgt := 1475) (by decide) (by omega) (fun c1470_ => ?_) (fun c1470_ => ?_)
        · refine pb_goto C dL_law_1475 (tgt := 3538) (by decide) ?_
          exact pb_V.mono (by omega) (by omega) (kk H3 S9 ls hG hX hLI (lv_sub hl [2, 3, 4, 5, 6, 7] rfl))
        · exact absurd c1470_ (by decide)
  · exact absurd rfl c1446_

set_option maxHeartbeats 1000000 in
theorem blk_area {w : pb_W} {p : Program} {l : Launch} {e : Env} {s : State} {m_ : MethodId} {below : List Frame} {meth : Method} {c : Code} {Q : State → Prop} {b0 L : Nat} {xs : Nat → Int32} (C : pb_C w p s m_ meth c #[.ref b0] cL_law 9 RX0 meth.name ret) (hN : pb_Nc s) {H : Heap} (hG : pb_G w s H) (hX : va_X b0 L xs s H) (hb0 : b0 < w.2.2.2) (i : Nat) (hi : i + 6 ≤ L) (hL : L ≤ 144) (bO sl o oL oD : Nat) (S : mS) (hLI : LWI w H bO sl o oL oD S)  (hst : StepI w l yX0_area cX0_area 4 [(0, 9, 12, 13)] yX3_area cX3_area 2 .int  [.ref bO, .int (iZ (xz xs (i + 1))), .ref oL] [.ref o, .int (iZ (xz xs (i + 1)))] H bO sl o oL oD) (bc bs : Nat) (ls : Array Slot) (hl : lv_has ls 9 [(5, .int (iZ ((i : Nat) : Int))), (0, .ref b0), (1, .ref bO), (2, .ref o), (3, .ref oL), (4, .ref oD)]) (kk : ∀ (H3 : Heap) (S3 : mS) (ls : Array Slot), pb_G w s H3 → va_X b0 L xs s H3 → LWI w H3 bO sl o oL oD S3 → lv_has ls 9 [(5, .int (iZ ((i : Nat) : Int))), (0, .ref b0), (1, .ref bO), (2, .ref o), (3, .ref oL), (4, .ref oD)] → pb_V w.2.2.2 p l e room_1 s m_ #[.ref b0] below meth c H3 bc bs Q (F0 m_ 3538 ls [])) : pb_V w.2.2.2 p l e room_1 s m_ #[.ref b0] below meth c H (bc + 49000) (bs + 228000) Q (F0 m_ 1478 ls []) := by
  obtain ⟨mc, ms, dd, postW, postX, hmc, hms, hdd, hW, h2, h3⟩ := hst
  refine pb_aload_n C dL_law_1478 rfl (lv_at hl 2 rfl) ?_
  refine pb_aload_n C dL_law_1479 rfl (lv_at hl 1 rfl) ?_
  refine pb_iload C dL_law_1480 (lv_at hl 0 rfl) ?_
  refine pb_ic C dL_law_1482 ?_
  refine pb_iadd C dL_law_1483 ?_
  refine pb_sldN C hX (i := (i + 1)) (by omega) dL_law_1484 ?_
  refine pb_aload_n C dL_law_1485 rfl (lv_at hl 4 rfl) ?_
  refine pb_go_i (bc' := bc + 49000 - mc) (bs' := bs + 228000 - ms) (pb_runSW (rest := []) C hG hN hW (lw_SW q1112 q1113 q50 q1114) hdX0_area rfl hl.1 rfl (Nat.le_of_ble_eq_true rfl) ⟨(Nat.le_of_ble_eq_true rfl), (Nat.le_of_ble_eq_true rfl)⟩ dL_law_1486) (by omega) (by omega) (fun k_ H2 hp2 => ?_)
  obtain ⟨f2, hkr, ⟨fsO, hOo⟩, hM3⟩ := h2 _ _ hp2
  have hG := hG.kept f2
  have hX := hX.kept (f2.2 _ (by have := hX.lt; omega) hb0)
  refine pb_istore C dL_law_1489 hl (by decide) rfl fun ls hl => ?_
  have hl : lv_has ls 9 [(6, .int (iZ (k_))), (5, .int (iZ (((i : Nat) : Int)))), (0, .ref (b0)), (1, .ref (bO)), (2, .ref (o)), (3, .ref (oL)), (4, .ref (oD))] := hl
  refine pb_aload_n C dL_law_1491 rfl (lv_at hl 4 rfl) ?_
  refine pb_aload_n C dL_law_1492 rfl (lv_at hl 2 rfl) ?_
  refine pb_iload C dL_law_1493 (lv_at hl 1 rfl) ?_
  refine pb_ic C dL_law_1495 ?_
  refine pb_iadd C dL_law_1496 ?_
  refine pb_sldN C hX (i := (i + 1)) (by omega) dL_law_1497 ?_
  refine pb_go_i (bc' := (bc + 49000 - mc)) (bs' := (bs + 228000 - ms)) (pb_runV (rest := []) C hG (hM3) hOo (ci := 2) rfl (lw_V q1933 q1934 q1935 q60 q1936) ⟨rfl, hdX3_area⟩ rfl hl.1 rfl (Nat.le_of_ble_eq_true rfl) ⟨show dd + 1 ≤ 27 from by omega, show 8 + (2 + 11) + 64 * dd ≤ 11162 from by omega⟩ dL_law_1498) (by omega) (by omega) (fun z_ H3 hp_ => ?_)
  obtain ⟨f3, S9, hMW9, hk9, hv9, hb9, hLI⟩ := h3 _ _ _ _ hp2 hp_
  have hG := hG.kept f3
  have hX := hX.kept (f3.2 _ (by have := hX.lt; omega) hb0)
  obtain ⟨fsP, hOp⟩ := hMW9.o
  refine pb_istore C dL_law_1501 hl (by decide) rfl fun ls hl => ?_
  have hl : lv_has ls 9 [(7, .int (iZ (z_))), (6, .int (iZ (k_))), (5, .int (iZ (((i : Nat) : Int)))), (0, .ref (b0)), (1, .ref (bO)), (2, .ref (o)), (3, .ref (oL)), (4, .ref (oD))] := hl
  refine pb_aload_n C dL_law_1503 rfl (lv_at hl 5 rfl) ?_
  refine pb_go_x (bc' := (bc + 49000 - mc)) (bs' := (bs + 228000 - ms)) (pb_runV (rest := []) C hG (met_X3_thrown l o S9 hMW9) hOp (ci := 2) rfl (lw_V q1786 q1787 q1788 q60 q1789) ⟨rfl, hdX3_thrown⟩ rfl hl.1 rfl (Nat.le_of_ble_eq_true rfl) ⟨(Nat.le_of_ble_eq_true rfl), (Nat.le_of_ble_eq_true rfl)⟩ dL_law_1504) (by omega) (by omega) ?_
  refine pb_eq (g2 := F0 m_ 1507 ls [.int (iZ (k_))]) (congrArg (fun z9 => F0 m_ 1507 ls [.int (iZ z9)]) (show (S9.1 0) = k_ from hk9)) ?_
  refine pb_iload C dL_law_1507 (lv_at hl 1 rfl) ?_
  refine pb_icmp_eq C dL_law_1509 (x := k_) (y := k_) (tgt := 1514) (by decide) (by omega) (by omega) (fun c1509_ => ?_) (fun c1509_ => ?_)
  · refine pb_iload C dL_law_1514 (lv_at hl 1 rfl) ?_
    refine pb_if_ne C dL_law_1516 (x := k_) (tgt := 1531) (by decide) (by omega) (fun c1516_ => ?_) (fun c1516_ => ?_)
    · refine pb_goto C dL_law_1531 (tgt := 3538) (by decide) ?_
      exact pb_V.mono (by omega) (by omega) (kk H3 S9 ls hG hX hLI (lv_sub hl [2, 3, 4, 5, 6, 7] rfl))
    · obtain ⟨hzr, g9, hA9⟩ := hv9 c1516_
      refine pb_aload_n C dL_law_1519 rfl (lv_at hl 6 rfl) ?_
      refine pb_ic C dL_law_1520 ?_
      refine pb_lald C hA9.b (i := 0) (v := .long (lZ (z_))) (by omega) (if_pos rfl) dL_law_1521 ?_
      refine pb_iload C dL_law_1522 (lv_at hl 0 rfl) ?_
      refine pb_i2l C dL_law_1524 (x := z_) (by omega) ?_
      refine pb_lcmpE C (x := lZ z_) dL_law_1525 ?_
      refine pb_if_eq C dL_law_1526 (x := 0) (tgt := 1531) (by decide) (by omega) (fun c1526_ => ?_) (fun c1526_ => ?_)
      · refine pb_goto C dL_law_1531 (tgt := 3538) (by decide) ?_
        exact pb_V.mono (by omega) (by omega) (kk H3 S9 ls hG hX hLI (lv_sub hl [2, 3, 4, 5, 6, 7] rfl))
      · exact absurd c1526_ (by decide)
  · exact absurd rfl c1509_

set_option maxHeartbeats 1000000 in
theorem blk_areaByCells {w : pb_W} {p : Program} {l : Launch} {e : Env} {s : State} {m_ : MethodId} {below : List Frame} {meth : Method} {c : Code} {Q : State → Prop} {b0 L : Nat} {xs : Nat → Int32} (C : pb_C w p s m_ meth c #[.ref b0] cL_law 9 RX0 meth.name ret) (hN : pb_Nc s) {H : Heap} (hG : pb_G w s H) (hX : va_X b0 L xs s H) (hb0 : b0 < w.2.2.2) (i : Nat) (hi : i + 6 ≤ L) (hL : L ≤ 144) (bO sl o oL oD : Nat) (S : mS) (hLI : LWI w H bO sl o oL oD S)  (hst : StepI w l yX0_areaByCells cX0_areaByCells 4 [(0, 9, 12, 13)] yX3_areaByCells cX3_areaByCells 2 .int  [.ref bO, .int (iZ (xz xs (i + 1))), .ref oL] [.ref o, .int (iZ (xz xs (i + 1)))] H bO sl o oL oD) (bc bs : Nat) (ls : Array Slot) (hl : lv_has ls 9 [(5, .int (iZ ((i : Nat) : Int))), (0, .ref b0), (1, .ref bO), (2, .ref o), (3, .ref oL), (4, .ref oD)]) (kk : ∀ (H3 : Heap) (S3 : mS) (ls : Array Slot), pb_G w s H3 → va_X b0 L xs s H3 → LWI w H3 bO sl o oL oD S3 → lv_has ls 9 [(5, .int (iZ ((i : Nat) : Int))), (0, .ref b0), (1, .ref bO), (2, .ref o), (3, .ref oL), (4, .ref oD)] → pb_V w.2.2.2 p l e room_1 s m_ #[.ref b0] below meth c H3 bc bs Q (F0 m_ 3538 ls [])) : pb_V w.2.2.2 p l e room_1 s m_ #[.ref b0] below meth c H (bc + 49000) (bs + 228000) Q (F0 m_ 1534 ls []) := by
  obtain ⟨mc, ms, dd, postW, postX, hmc, hms, hdd, hW, h2, h3⟩ := hst
  refine pb_aload_n C dL_law_1534 rfl (lv_at hl 2 rfl) ?_
  refine pb_aload_n C dL_law_1535 rfl (lv_at hl 1 rfl) ?_
  refine pb_iload C dL_law_1536 (lv_at hl 0 rfl) ?_
  refine pb_ic C dL_law_1538 ?_
  refine pb_iadd C dL_law_1539 ?_
  refine pb_sldN C hX (i := (i + 1)) (by omega) dL_law_1540 ?_
  refine pb_aload_n C dL_law_1541 rfl (lv_at hl 4 rfl) ?_
  refine pb_go_i (bc' := bc + 49000 - mc) (bs' := bs + 228000 - ms) (pb_runSW (rest := []) C hG hN hW (lw_SW q1119 q1120 q50 q1121) hdX0_areaByCells rfl hl.1 rfl (Nat.le_of_ble_eq_true rfl) ⟨(Nat.le_of_ble_eq_true rfl), (Nat.le_of_ble_eq_true rfl)⟩ dL_law_1542) (by omega) (by omega) (fun k_ H2 hp2 => ?_)
  obtain ⟨f2, hkr, ⟨fsO, hOo⟩, hM3⟩ := h2 _ _ hp2
  have hG := hG.kept f2
  have hX := hX.kept (f2.2 _ (by have := hX.lt; omega) hb0)
  refine pb_istore C dL_law_1545 hl (by decide) rfl fun ls hl => ?_
  have hl : lv_has ls 9 [(6, .int (iZ (k_))), (5, .int (iZ (((i : Nat) : Int)))), (0, .ref (b0)), (1, .ref (bO)), (2, .ref (o)), (3, .ref (oL)), (4, .ref (oD))] := hl
  refine pb_aload_n C dL_law_1547 rfl (lv_at hl 4 rfl) ?_
  refine pb_aload_n C dL_law_1548 rfl (lv_at hl 2 rfl) ?_
  refine pb_iload C dL_law_1549 (lv_at hl 1 rfl) ?_
  refine pb_ic C dL_law_1551 ?_
  refine pb_iadd C dL_law_1552 ?_
  refine pb_sldN C hX (i := (i + 1)) (by omega) dL_law_1553 ?_
  refine pb_go_i (bc' := (bc + 49000 - mc)) (bs' := (bs + 228000 - ms)) (pb_runV (rest := []) C hG (hM3) hOo (ci := 2) rfl (lw_V q1941 q1942 q1943 q60 q1944) ⟨rfl, hdX3_areaByCells⟩ rfl hl.1 rfl (Nat.le_of_ble_eq_true rfl) ⟨show dd + 1 ≤ 27 from by omega, show 8 + (2 + 11) + 64 * dd ≤ 11162 from by omega⟩ dL_law_1554) (by omega) (by omega) (fun z_ H3 hp_ => ?_)
  obtain ⟨f3, S9, hMW9, hk9, hv9, hb9, hLI⟩ := h3 _ _ _ _ hp2 hp_
  have hG := hG.kept f3
  have hX := hX.kept (f3.2 _ (by have := hX.lt; omega) hb0)
  obtain ⟨fsP, hOp⟩ := hMW9.o
  refine pb_istore C dL_law_1557 hl (by decide) rfl fun ls hl => ?_
  have hl : lv_has ls 9 [(7, .int (iZ (z_))), (6, .int (iZ (k_))), (5, .int (iZ (((i : Nat) : Int)))), (0, .ref (b0)), (1, .ref (bO)), (2, .ref (o)), (3, .ref (oL)), (4, .ref (oD))] := hl
  refine pb_aload_n C dL_law_1559 rfl (lv_at hl 5 rfl) ?_
  refine pb_go_x (bc' := (bc + 49000 - mc)) (bs' := (bs + 228000 - ms)) (pb_runV (rest := []) C hG (met_X3_thrown l o S9 hMW9) hOp (ci := 2) rfl (lw_V q1786 q1787 q1788 q60 q1789) ⟨rfl, hdX3_thrown⟩ rfl hl.1 rfl (Nat.le_of_ble_eq_true rfl) ⟨(Nat.le_of_ble_eq_true rfl), (Nat.le_of_ble_eq_true rfl)⟩ dL_law_1560) (by omega) (by omega) ?_
  refine pb_eq (g2 := F0 m_ 1563 ls [.int (iZ (k_))]) (congrArg (fun z9 => F0 m_ 1563 ls [.int (iZ z9)]) (show (S9.1 0) = k_ from hk9)) ?_
  refine pb_iload C dL_law_1563 (lv_at hl 1 rfl) ?_
  refine pb_icmp_eq C dL_law_1565 (x := k_) (y := k_) (tgt := 1570) (by decide) (by omega) (by omega) (fun c1565_ => ?_) (fun c1565_ => ?_)
  · refine pb_iload C dL_law_1570 (lv_at hl 1 rfl) ?_
    refine pb_if_ne C dL_law_1572 (x := k_) (tgt := 1587) (by decide) (by omega) (fun c1572_ => ?_) (fun c1572_ => ?_)
    · refine pb_goto C dL_law_1587 (tgt := 3538) (by decide) ?_
      exact pb_V.mono (by omega) (by omega) (kk H3 S9 ls hG hX hLI (lv_sub hl [2, 3, 4, 5, 6, 7] rfl))
    · obtain ⟨hzr, g9, hA9⟩ := hv9 c1572_
      refine pb_aload_n C dL_law_1575 rfl (lv_at hl 6 rfl) ?_
      refine pb_ic C dL_law_1576 ?_
      refine pb_lald C hA9.b (i := 0) (v := .long (lZ (z_))) (by omega) (if_pos rfl) dL_law_1577 ?_
      refine pb_iload C dL_law_1578 (lv_at hl 0 rfl) ?_
      refine pb_i2l C dL_law_1580 (x := z_) (by omega) ?_
      refine pb_lcmpE C (x := lZ z_) dL_law_1581 ?_
      refine pb_if_eq C dL_law_1582 (x := 0) (tgt := 1587) (by decide) (by omega) (fun c1582_ => ?_) (fun c1582_ => ?_)
      · refine pb_goto C dL_law_1587 (tgt := 3538) (by decide) ?_
        exact pb_V.mono (by omega) (by omega) (kk H3 S9 ls hG hX hLI (lv_sub hl [2, 3, 4, 5, 6, 7] rfl))
      · exact absurd c1582_ (by decide)
  · exact absurd rfl c1565_

set_option maxHeartbeats 1000000 in
theorem blk_perimeter {w : pb_W} {p : Program} {l : Launch} {e : Env} {s : State} {m_ : MethodId} {below : List Frame} {meth : Method} {c : Code} {Q : State → Prop} {b0 L : Nat} {xs : Nat → Int32} (C : pb_C w p s m_ meth c #[.ref b0] cL_law 9 RX0 meth.name ret) (hN : pb_Nc s) {H : Heap} (hG : pb_G w s H) (hX : va_X b0 L xs s H) (hb0 : b0 < w.2.2.2) (i : Nat) (hi : i + 6 ≤ L) (hL : L ≤ 144) (bO sl o oL oD : Nat) (S : mS) (hLI : LWI w H bO sl o oL oD S)  (hst : StepI w l yX0_perimeter cX0_perimeter 4 [(0, 9, 12, 13)] yX3_perimeter cX3_perimeter 5 .int  [.ref bO, .int (iZ (xz xs (i + 1))), .ref oL] [.ref o, .int (iZ (xz xs (i + 1)))] H bO sl o oL oD) (bc bs : Nat) (ls : Array Slot) (hl : lv_has ls 9 [(5, .int (iZ ((i : Nat) : Int))), (0, .ref b0), (1, .ref bO), (2, .ref o), (3, .ref oL), (4, .ref oD)]) (kk : ∀ (H3 : Heap) (S3 : mS) (ls : Array Slot), pb_G w s H3 → va_X b0 L xs s H3 → LWI w H3 bO sl o oL oD S3 → lv_has ls 9 [(5, .int (iZ ((i : Nat) : Int))), (0, .ref b0), (1, .ref bO), (2, .ref o), (3, .ref oL), (4, .ref oD)] → pb_V w.2.2.2 p l e room_1 s m_ #[.ref b0] below meth c H3 bc bs Q (F0 m_ 3538 ls [])) : pb_V w.2.2.2 p l e room_1 s m_ #[.ref b0] below meth c H (bc + 49000) (bs + 228000) Q (F0 m_ 1590 ls []) := by
  obtain ⟨mc, ms, dd, postW, postX, hmc, hms, hdd, hW, h2, h3⟩ := hst
  refine pb_aload_n C dL_law_1590 rfl (lv_at hl 2 rfl) ?_
  refine pb_aload_n C dL_law_1591 rfl (lv_at hl 1 rfl) ?_
  refine pb_iload C dL_law_1592 (lv_at hl 0 rfl) ?_
  refine pb_ic C dL_law_1594 ?_
  refine pb_iadd C dL_law_1595 ?_
  refine pb_sldN C hX (i := (i + 1)) (by omega) dL_law_1596 ?_
  refine pb_aload_n C dL_law_1597 rfl (lv_at hl 4 rfl) ?_
  refine pb_go_i (bc' := bc + 49000 - mc) (bs' := bs + 228000 - ms) (pb_runSW (rest := []) C hG hN hW (lw_SW q1136 q1137 q50 q1138) hdX0_perimeter rfl hl.1 rfl (Nat.le_of_ble_eq_true rfl) ⟨(Nat.le_of_ble_eq_true rfl), (Nat.le_of_ble_eq_true rfl)⟩ dL_law_1598) (by omega) (by omega) (fun k_ H2 hp2 => ?_)
  obtain ⟨f2, hkr, ⟨fsO, hOo⟩, hM3⟩ := h2 _ _ hp2
  have hG := hG.kept f2
  have hX := hX.kept (f2.2 _ (by have := hX.lt; omega) hb0)
  refine pb_istore C dL_law_1601 hl (by decide) rfl fun ls hl => ?_
  have hl : lv_has ls 9 [(6, .int (iZ (k_))), (5, .int (iZ (((i : Nat) : Int)))), (0, .ref (b0)), (1, .ref (bO)), (2, .ref (o)), (3, .ref (oL)), (4, .ref (oD))] := hl
  refine pb_aload_n C dL_law_1603 rfl (lv_at hl 4 rfl) ?_
  refine pb_aload_n C dL_law_1604 rfl (lv_at hl 2 rfl) ?_
  refine pb_iload C dL_law_1605 (lv_at hl 1 rfl) ?_
  refine pb_ic C dL_law_1607 ?_
  refine pb_iadd C dL_law_1608 ?_
  refine pb_sldN C hX (i := (i + 1)) (by omega) dL_law_1609 ?_
  refine pb_go_i (bc' := (bc + 49000 - mc)) (bs' := (bs + 228000 - ms)) (pb_runV (rest := []) C hG (hM3) hOo (ci := 2) rfl (lw_V q1946 q1947 q1948 q60 q1949) ⟨rfl, hdX3_perimeter⟩ rfl hl.1 rfl (Nat.le_of_ble_eq_true rfl) ⟨show dd + 1 ≤ 27 from by omega, show 8 + (5 + 11) + 64 * dd ≤ 11162 from by omega⟩ dL_law_1610) (by omega) (by omega) (fun z_ H3 hp_ => ?_)
  obtain ⟨f3, S9, hMW9, hk9, hv9, hb9, hLI⟩ := h3 _ _ _ _ hp2 hp_
  have hG := hG.kept f3
  have hX := hX.kept (f3.2 _ (by have := hX.lt; omega) hb0)
  obtain ⟨fsP, hOp⟩ := hMW9.o
  refine pb_istore C dL_law_1613 hl (by decide) rfl fun ls hl => ?_
  have hl : lv_has ls 9 [(7, .int (iZ (z_))), (6, .int (iZ (k_))), (5, .int (iZ (((i : Nat) : Int)))), (0, .ref (b0)), (1, .ref (bO)), (2, .ref (o)), (3, .ref (oL)), (4, .ref (oD))] := hl
  refine pb_aload_n C dL_law_1615 rfl (lv_at hl 5 rfl) ?_
  refine pb_go_x (bc' := (bc + 49000 - mc)) (bs' := (bs + 228000 - ms)) (pb_runV (rest := []) C hG (met_X3_thrown l o S9 hMW9) hOp (ci := 2) rfl (lw_V q1786 q1787 q1788 q60 q1789) ⟨rfl, hdX3_thrown⟩ rfl hl.1 rfl (Nat.le_of_ble_eq_true rfl) ⟨(Nat.le_of_ble_eq_true rfl), (Nat.le_of_ble_eq_true rfl)⟩ dL_law_1616) (by omega) (by omega) ?_
  refine pb_eq (g2 := F0 m_ 1619 ls [.int (iZ (k_))]) (congrArg (fun z9 => F0 m_ 1619 ls [.int (iZ z9)]) (show (S9.1 0) = k_ from hk9)) ?_
  refine pb_iload C dL_law_1619 (lv_at hl 1 rfl) ?_
  refine pb_icmp_eq C dL_law_1621 (x := k_) (y := k_) (tgt := 1626) (by decide) (by omega) (by omega) (fun c1621_ => ?_) (fun c1621_ => ?_)
  · refine pb_iload C dL_law_1626 (lv_at hl 1 rfl) ?_
    refine pb_if_ne C dL_law_1628 (x := k_) (tgt := 1643) (by decide) (by omega) (fun c1628_ => ?_) (fun c1628_ => ?_)
    · refine pb_goto C dL_law_1643 (tgt := 3538) (by decide) ?_
      exact pb_V.mono (by omega) (by omega) (kk H3 S9 ls hG hX hLI (lv_sub hl [2, 3, 4, 5, 6, 7] rfl))
    · obtain ⟨hzr, g9, hA9⟩ := hv9 c1628_
      refine pb_aload_n C dL_law_1631 rfl (lv_at hl 6 rfl) ?_
      refine pb_ic C dL_law_1632 ?_
      refine pb_lald C hA9.b (i := 0) (v := .long (lZ (z_))) (by omega) (if_pos rfl) dL_law_1633 ?_
      refine pb_iload C dL_law_1634 (lv_at hl 0 rfl) ?_
      refine pb_i2l C dL_law_1636 (x := z_) (by omega) ?_
      refine pb_lcmpE C (x := lZ z_) dL_law_1637 ?_
      refine pb_if_eq C dL_law_1638 (x := 0) (tgt := 1643) (by decide) (by omega) (fun c1638_ => ?_) (fun c1638_ => ?_)
      · refine pb_goto C dL_law_1643 (tgt := 3538) (by decide) ?_
        exact pb_V.mono (by omega) (by omega) (kk H3 S9 ls hG hX hLI (lv_sub hl [2, 3, 4, 5, 6, 7] rfl))
      · exact absurd c1638_ (by decide)
  · exact absurd rfl c1621_

set_option maxHeartbeats 1000000 in
theorem blk_perimeterByCells {w : pb_W} {p : Program} {l : Launch} {e : Env} {s : State} {m_ : MethodId} {below : List Frame} {meth : Method} {c : Code} {Q : State → Prop} {b0 L : Nat} {xs : Nat → Int32} (C : pb_C w p s m_ meth c #[.ref b0] cL_law 9 RX0 meth.name ret) (hN : pb_Nc s) {H : Heap} (hG : pb_G w s H) (hX : va_X b0 L xs s H) (hb0 : b0 < w.2.2.2) (i : Nat) (hi : i + 6 ≤ L) (hL : L ≤ 144) (bO sl o oL oD : Nat) (S : mS) (hLI : LWI w H bO sl o oL oD S)  (hst : StepI w l yX0_perimeterByCells cX0_perimeterByCells 4 [(0, 9, 12, 13)] yX3_perimeterByCells cX3_perimeterByCells 2 .int  [.ref bO, .int (iZ (xz xs (i + 1))), .ref oL] [.ref o, .int (iZ (xz xs (i + 1)))] H bO sl o oL oD) (bc bs : Nat) (ls : Array Slot) (hl : lv_has ls 9 [(5, .int (iZ ((i : Nat) : Int))), (0, .ref b0), (1, .ref bO), (2, .ref o), (3, .ref oL), (4, .ref oD)]) (kk : ∀ (H3 : Heap) (S3 : mS) (ls : Array Slot), pb_G w s H3 → va_X b0 L xs s H3 → LWI w H3 bO sl o oL oD S3 → lv_has ls 9 [(5, .int (iZ ((i : Nat) : Int))), (0, .ref b0), (1, .ref bO), (2, .ref o), (3, .ref oL), (4, .ref oD)] → pb_V w.2.2.2 p l e room_1 s m_ #[.ref b0] below meth c H3 bc bs Q (F0 m_ 3538 ls [])) : pb_V w.2.2.2 p l e room_1 s m_ #[.ref b0] below meth c H (bc + 49000) (bs + 228000) Q (F0 m_ 1646 ls []) := by
  obtain ⟨mc, ms, dd, postW, postX, hmc, hms, hdd, hW, h2, h3⟩ := hst
  refine pb_aload_n C dL_law_1646 rfl (lv_at hl 2 rfl) ?_
  refine pb_aload_n C dL_law_1647 rfl (lv_at hl 1 rfl) ?_
  refine pb_iload C dL_law_1648 (lv_at hl 0 rfl) ?_
  refine pb_ic C dL_law_1650 ?_
  refine pb_iadd C dL_law_1651 ?_
  refine pb_sldN C hX (i := (i + 1)) (by omega) dL_law_1652 ?_
  refine pb_aload_n C dL_law_1653 rfl (lv_at hl 4 rfl) ?_
  refine pb_go_i (bc' := bc + 49000 - mc) (bs' := bs + 228000 - ms) (pb_runSW (rest := []) C hG hN hW (lw_SW q1164 q1165 q50 q1166) hdX0_perimeterByCells rfl hl.1 rfl (Nat.le_of_ble_eq_true rfl) ⟨(Nat.le_of_ble_eq_true rfl), (Nat.le_of_ble_eq_true rfl)⟩ dL_law_1654) (by omega) (by omega) (fun k_ H2 hp2 => ?_)
  obtain ⟨f2, hkr, ⟨fsO, hOo⟩, hM3⟩ := h2 _ _ hp2
  have hG := hG.kept f2
  have hX := hX.kept (f2.2 _ (by have := hX.lt; omega) hb0)
  refine pb_istore C dL_law_1657 hl (by decide) rfl fun ls hl => ?_
  have hl : lv_has ls 9 [(6, .int (iZ (k_))), (5, .int (iZ (((i : Nat) : Int)))), (0, .ref (b0)), (1, .ref (bO)), (2, .ref (o)), (3, .ref (oL)), (4, .ref (oD))] := hl
  refine pb_aload_n C dL_law_1659 rfl (lv_at hl 4 rfl) ?_
  refine pb_aload_n C dL_law_1660 rfl (lv_at hl 2 rfl) ?_
  refine pb_iload C dL_law_1661 (lv_at hl 1 rfl) ?_
  refine pb_ic C dL_law_1663 ?_
  refine pb_iadd C dL_law_1664 ?_
  refine pb_sldN C hX (i := (i + 1)) (by omega) dL_law_1665 ?_
  refine pb_go_i (bc' := (bc + 49000 - mc)) (bs' := (bs + 228000 - ms)) (pb_runV (rest := []) C hG (hM3) hOo (ci := 2) rfl (lw_V q1950 q1951 q1952 q60 q1953) ⟨rfl, hdX3_perimeterByCells⟩ rfl hl.1 rfl (Nat.le_of_ble_eq_true rfl) ⟨show dd + 1 ≤ 27 from by omega, show 8 + (2 + 11) + 64 * dd ≤ 11162 from by omega⟩ dL_law_1666) (by omega) (by omega) (fun z_ H3 hp_ => ?_)
  obtain ⟨f3, S9, hMW9, hk9, hv9, hb9, hLI⟩ := h3 _ _ _ _ hp2 hp_
  have hG := hG.kept f3
  have hX := hX.kept (f3.2 _ (by have := hX.lt; omega) hb0)
  obtain ⟨fsP, hOp⟩ := hMW9.o
  refine pb_istore C dL_law_1669 hl (by decide) rfl fun ls hl => ?_
  have hl : lv_has ls 9 [(7, .int (iZ (z_))), (6, .int (iZ (k_))), (5, .int (iZ (((i : Nat) : Int)))), (0, .ref (b0)), (1, .ref (bO)), (2, .ref (o)), (3, .ref (oL)), (4, .ref (oD))] := hl
  refine pb_aload_n C dL_law_1671 rfl (lv_at hl 5 rfl) ?_
  refine pb_go_x (bc' := (bc + 49000 - mc)) (bs' := (bs + 228000 - ms)) (pb_runV (rest := []) C hG (met_X3_thrown l o S9 hMW9) hOp (ci := 2) rfl (lw_V q1786 q1787 q1788 q60 q1789) ⟨rfl, hdX3_thrown⟩ rfl hl.1 rfl (Nat.le_of_ble_eq_true rfl) ⟨(Nat.le_of_ble_eq_true rfl), (Nat.le_of_ble_eq_true rfl)⟩ dL_law_1672) (by omega) (by omega) ?_
  refine pb_eq (g2 := F0 m_ 1675 ls [.int (iZ (k_))]) (congrArg (fun z9 => F0 m_ 1675 ls [.int (iZ z9)]) (show (S9.1 0) = k_ from hk9)) ?_
  refine pb_iload C dL_law_1675 (lv_at hl 1 rfl) ?_
  refine pb_icmp_eq C dL_law_1677 (x := k_) (y := k_) (tgt := 1682) (by decide) (by omega) (by omega) (fun c1677_ => ?_) (fun c1677_ => ?_)
  · refine pb_iload C dL_law_1682 (lv_at hl 1 rfl) ?_
    refine pb_if_ne C dL_law_1684 (x := k_) (tgt := 1699) (by decide) (by omega) (fun c1684_ => ?_) (fun c1684_ => ?_)
    · refine pb_goto C dL_law_1699 (tgt := 3538) (by decide) ?_
      exact pb_V.mono (by omega) (by omega) (kk H3 S9 ls hG hX hLI (lv_sub hl [2, 3, 4, 5, 6, 7] rfl))
    · obtain ⟨hzr, g9, hA9⟩ := hv9 c1684_
      refine pb_aload_n C dL_law_1687 rfl (lv_at hl 6 rfl) ?_
      refine pb_ic C dL_law_1688 ?_
      refine pb_lald C hA9.b (i := 0) (v := .long (lZ (z_))) (by omega) (if_pos rfl) dL_law_1689 ?_
      refine pb_iload C dL_law_1690 (lv_at hl 0 rfl) ?_
      refine pb_i2l C dL_law_1692 (x := z_) (by omega) ?_
      refine pb_lcmpE C (x := lZ z_) dL_law_1693 ?_
      refine pb_if_eq C dL_law_1694 (x := 0) (tgt := 1699) (by decide) (by omega) (fun c1694_ => ?_) (fun c1694_ => ?_)
      · refine pb_goto C dL_law_1699 (tgt := 3538) (by decide) ?_
        exact pb_V.mono (by omega) (by omega) (kk H3 S9 ls hG hX hLI (lv_sub hl [2, 3, 4, 5, 6, 7] rfl))
      · exact absurd c1694_ (by decide)
  · exact absurd rfl c1677_

set_option maxHeartbeats 1000000 in
theorem blk_bandCount {w : pb_W} {p : Program} {l : Launch} {e : Env} {s : State} {m_ : MethodId} {below : List Frame} {meth : Method} {c : Code} {Q : State → Prop} {b0 L : Nat} {xs : Nat → Int32} (C : pb_C w p s m_ meth c #[.ref b0] cL_law 9 RX0 meth.name ret) (hN : pb_Nc s) {H : Heap} (hG : pb_G w s H) (hX : va_X b0 L xs s H) (hb0 : b0 < w.2.2.2) (i : Nat) (hi : i + 6 ≤ L) (hL : L ≤ 144) (bO sl o oL oD : Nat) (S : mS) (hLI : LWI w H bO sl o oL oD S)  (hst : StepI w l yX0_bandCount cX0_bandCount 4 [(0, 9, 12, 13)] yX3_bandCount cX3_bandCount 4 .int  [.ref bO, .int (iZ (xz xs (i + 1))), .ref oL] [.ref o, .int (iZ (xz xs (i + 1)))] H bO sl o oL oD) (bc bs : Nat) (ls : Array Slot) (hl : lv_has ls 9 [(5, .int (iZ ((i : Nat) : Int))), (0, .ref b0), (1, .ref bO), (2, .ref o), (3, .ref oL), (4, .ref oD)]) (kk : ∀ (H3 : Heap) (S3 : mS) (ls : Array Slot), pb_G w s H3 → va_X b0 L xs s H3 → LWI w H3 bO sl o oL oD S3 → lv_has ls 9 [(5, .int (iZ ((i : Nat) : Int))), (0, .ref b0), (1, .ref bO), (2, .ref o), (3, .ref oL), (4, .ref oD)] → pb_V w.2.2.2 p l e room_1 s m_ #[.ref b0] below meth c H3 bc bs Q (F0 m_ 3538 ls [])) : pb_V w.2.2.2 p l e room_1 s m_ #[.ref b0] below meth c H (bc + 49000) (bs + 228000) Q (F0 m_ 1702 ls []) := by
  obtain ⟨mc, ms, dd, postW, postX, hmc, hms, hdd, hW, h2, h3⟩ := hst
  refine pb_aload_n C dL_law_1702 rfl (lv_at hl 2 rfl) ?_
  refine pb_aload_n C dL_law_1703 rfl (lv_at hl 1 rfl) ?_
  refine pb_iload C dL_law_1704 (lv_at hl 0 rfl) ?_
  refine pb_ic C dL_law_1706 ?_
  refine pb_iadd C dL_law_1707 ?_
  refine pb_sldN C hX (i := (i + 1)) (by omega) dL_law_1708 ?_
  refine pb_aload_n C dL_law_1709 rfl (lv_at hl 4 rfl) ?_
  refine pb_go_i (bc' := bc + 49000 - mc) (bs' := bs + 228000 - ms) (pb_runSW (rest := []) C hG hN hW (lw_SW q1180 q1181 q50 q1182) hdX0_bandCount rfl hl.1 rfl (Nat.le_of_ble_eq_true rfl) ⟨(Nat.le_of_ble_eq_true rfl), (Nat.le_of_ble_eq_true rfl)⟩ dL_law_1710) (by omega) (by omega) (fun k_ H2 hp2 => ?_)
  obtain ⟨f2, hkr, ⟨fsO, hOo⟩, hM3⟩ := h2 _ _ hp2
  have hG := hG.kept f2
  have hX := hX.kept (f2.2 _ (by have := hX.lt; omega) hb0)
  refine pb_istore C dL_law_1713 hl (by decide) rfl fun ls hl => ?_
  have hl : lv_has ls 9 [(6, .int (iZ (k_))), (5, .int (iZ (((i : Nat) : Int)))), (0, .ref (b0)), (1, .ref (bO)), (2, .ref (o)), (3, .ref (oL)), (4, .ref (oD))] := hl
  refine pb_aload_n C dL_law_1715 rfl (lv_at hl 4 rfl) ?_
  refine pb_aload_n C dL_law_1716 rfl (lv_at hl 2 rfl) ?_
  refine pb_iload C dL_law_1717 (lv_at hl 1 rfl) ?_
  refine pb_ic C dL_law_1719 ?_
  refine pb_iadd C dL_law_1720 ?_
  refine pb_sldN C hX (i := (i + 1)) (by omega) dL_law_1721 ?_
  refine pb_go_i (bc' := (bc + 49000 - mc)) (bs' := (bs + 228000 - ms)) (pb_runV (rest := []) C hG (hM3) hOo (ci := 2) rfl (lw_V q1955 q1956 q1957 q60 q1958) ⟨rfl, hdX3_bandCount⟩ rfl hl.1 rfl (Nat.le_of_ble_eq_true rfl) ⟨show dd + 1 ≤ 27 from by omega, show 8 + (4 + 11) + 64 * dd ≤ 11162 from by omega⟩ dL_law_1722) (by omega) (by omega) (fun z_ H3 hp_ => ?_)
  obtain ⟨f3, S9, hMW9, hk9, hv9, hb9, hLI⟩ := h3 _ _ _ _ hp2 hp_
  have hG := hG.kept f3
  have hX := hX.kept (f3.2 _ (by have := hX.lt; omega) hb0)
  obtain ⟨fsP, hOp⟩ := hMW9.o
  refine pb_istore C dL_law_1725 hl (by decide) rfl fun ls hl => ?_
  have hl : lv_has ls 9 [(7, .int (iZ (z_))), (6, .int (iZ (k_))), (5, .int (iZ (((i : Nat) : Int)))), (0, .ref (b0)), (1, .ref (bO)), (2, .ref (o)), (3, .ref (oL)), (4, .ref (oD))] := hl
  refine pb_aload_n C dL_law_1727 rfl (lv_at hl 5 rfl) ?_
  refine pb_go_x (bc' := (bc + 49000 - mc)) (bs' := (bs + 228000 - ms)) (pb_runV (rest := []) C hG (met_X3_thrown l o S9 hMW9) hOp (ci := 2) rfl (lw_V q1786 q1787 q1788 q60 q1789) ⟨rfl, hdX3_thrown⟩ rfl hl.1 rfl (Nat.le_of_ble_eq_true rfl) ⟨(Nat.le_of_ble_eq_true rfl), (Nat.le_of_ble_eq_true rfl)⟩ dL_law_1728) (by omega) (by omega) ?_
  refine pb_eq (g2 := F0 m_ 1731 ls [.int (iZ (k_))]) (congrArg (fun z9 => F0 m_ 1731 ls [.int (iZ z9)]) (show (S9.1 0) = k_ from hk9)) ?_
  refine pb_iload C dL_law_1731 (lv_at hl 1 rfl) ?_
  refine pb_icmp_eq C dL_law_1733 (x := k_) (y := k_) (tgt := 1738) (by decide) (by omega) (by omega) (fun c1733_ => ?_) (fun c1733_ => ?_)
  · refine pb_iload C dL_law_1738 (lv_at hl 1 rfl) ?_
    refine pb_if_ne C dL_law_1740 (x := k_) (tgt := 1755) (by decide) (by omega) (fun c1740_ => ?_) (fun c1740_ => ?_)
    · refine pb_goto C dL_law_1755 (tgt := 3538) (by decide) ?_
      exact pb_V.mono (by omega) (by omega) (kk H3 S9 ls hG hX hLI (lv_sub hl [2, 3, 4, 5, 6, 7] rfl))
    · obtain ⟨hzr, g9, hA9⟩ := hv9 c1740_
      refine pb_aload_n C dL_law_1743 rfl (lv_at hl 6 rfl) ?_
      refine pb_ic C dL_law_1744 ?_
      refine pb_lald C hA9.b (i := 0) (v := .long (lZ (z_))) (by omega) (if_pos rfl) dL_law_1745 ?_
      refine pb_iload C dL_law_1746 (lv_at hl 0 rfl) ?_
      refine pb_i2l C dL_law_1748 (x := z_) (by omega) ?_
      refine pb_lcmpE C (x := lZ z_) dL_law_1749 ?_
      refine pb_if_eq C dL_law_1750 (x := 0) (tgt := 1755) (by decide) (by omega) (fun c1750_ => ?_) (fun c1750_ => ?_)
      · refine pb_goto C dL_law_1755 (tgt := 3538) (by decide) ?_
        exact pb_V.mono (by omega) (by omega) (kk H3 S9 ls hG hX hLI (lv_sub hl [2, 3, 4, 5, 6, 7] rfl))
      · exact absurd c1750_ (by decide)
  · exact absurd rfl c1733_

set_option maxHeartbeats 1000000 in
theorem blk_rectangleCount {w : pb_W} {p : Program} {l : Launch} {e : Env} {s : State} {m_ : MethodId} {below : List Frame} {meth : Method} {c : Code} {Q : State → Prop} {b0 L : Nat} {xs : Nat → Int32} (C : pb_C w p s m_ meth c #[.ref b0] cL_law 9 RX0 meth.name ret) (hN : pb_Nc s) {H : Heap} (hG : pb_G w s H) (hX : va_X b0 L xs s H) (hb0 : b0 < w.2.2.2) (i : Nat) (hi : i + 6 ≤ L) (hL : L ≤ 144) (bO sl o oL oD : Nat) (S : mS) (hLI : LWI w H bO sl o oL oD S)  (hst : StepI w l yX0_rectangleCount cX0_rectangleCount 4 [(0, 9, 12, 13)] yX3_rectangleCount cX3_rectangleCount 5 .int  [.ref bO, .int (iZ (xz xs (i + 1))), .ref oL] [.ref o, .int (iZ (xz xs (i + 1)))] H bO sl o oL oD) (bc bs : Nat) (ls : Array Slot) (hl : lv_has ls 9 [(5, .int (iZ ((i : Nat) : Int))), (0, .ref b0), (1, .ref bO), (2, .ref o), (3, .ref oL), (4, .ref oD)]) (kk : ∀ (H3 : Heap) (S3 : mS) (ls : Array Slot), pb_G w s H3 → va_X b0 L xs s H3 → LWI w H3 bO sl o oL oD S3 → lv_has ls 9 [(5, .int (iZ ((i : Nat) : Int))), (0, .ref b0), (1, .ref bO), (2, .ref o), (3, .ref oL), (4, .ref oD)] → pb_V w.2.2.2 p l e room_1 s m_ #[.ref b0] below meth c H3 bc bs Q (F0 m_ 3538 ls [])) : pb_V w.2.2.2 p l e room_1 s m_ #[.ref b0] below meth c H (bc + 49000) (bs + 228000) Q (F0 m_ 1758 ls []) := by
  obtain ⟨mc, ms, dd, postW, postX, hmc, hms, hdd, hW, h2, h3⟩ := hst
  refine pb_aload_n C dL_law_1758 rfl (lv_at hl 2 rfl) ?_
  refine pb_aload_n C dL_law_1759 rfl (lv_at hl 1 rfl) ?_
  refine pb_iload C dL_law_1760 (lv_at hl 0 rfl) ?_
  refine pb_ic C dL_law_1762 ?_
  refine pb_iadd C dL_law_1763 ?_
  refine pb_sldN C hX (i := (i + 1)) (by omega) dL_law_1764 ?_
  refine pb_aload_n C dL_law_1765 rfl (lv_at hl 4 rfl) ?_
  refine pb_go_i (bc' := bc + 49000 - mc) (bs' := bs + 228000 - ms) (pb_runSW (rest := []) C hG hN hW (lw_SW q1189 q1190 q50 q1191) hdX0_rectangleCount rfl hl.1 rfl (Nat.le_of_ble_eq_true rfl) ⟨(Nat.le_of_ble_eq_true rfl), (Nat.le_of_ble_eq_true rfl)⟩ dL_law_1766) (by omega) (by omega) (fun k_ H2 hp2 => ?_)
  obtain ⟨f2, hkr, ⟨fsO, hOo⟩, hM3⟩ := h2 _ _ hp2
  have hG := hG.kept f2
  have hX := hX.kept (f2.2 _ (by have := hX.lt; omega) hb0)
  refine pb_istore C dL_law_1769 hl (by decide) rfl fun ls hl => ?_
  have hl : lv_has ls 9 [(6, .int (iZ (k_))), (5, .int (iZ (((i : Nat) : Int)))), (0, .ref (b0)), (1, .ref (bO)), (2, .ref (o)), (3, .ref (oL)), (4, .ref (oD))] := hl
  refine pb_aload_n C dL_law_1771 rfl (lv_at hl 4 rfl) ?_
  refine pb_aload_n C dL_law_1772 rfl (lv_at hl 2 rfl) ?_
  refine pb_iload C dL_law_1773 (lv_at hl 1 rfl) ?_
  refine pb_ic C dL_law_1775 ?_
  refine pb_iadd C dL_law_1776 ?_
  refine pb_sldN C hX (i := (i + 1)) (by omega) dL_law_1777 ?_
  refine pb_go_i (bc' := (bc + 49000 - mc)) (bs' := (bs + 228000 - ms)) (pb_runV (rest := []) C hG (hM3) hOo (ci := 2) rfl (lw_V q1959 q1960 q1961 q60 q1962) ⟨rfl, hdX3_rectangleCount⟩ rfl hl.1 rfl (Nat.le_of_ble_eq_true rfl) ⟨show dd + 1 ≤ 27 from by omega, show 8 + (5 + 11) + 64 * dd ≤ 11162 from by omega⟩ dL_law_1778) (by omega) (by omega) (fun z_ H3 hp_ => ?_)
  obtain ⟨f3, S9, hMW9, hk9, hv9, hb9, hLI⟩ := h3 _ _ _ _ hp2 hp_
  have hG := hG.kept f3
  have hX := hX.kept (f3.2 _ (by have := hX.lt; omega) hb0)
  obtain ⟨fsP, hOp⟩ := hMW9.o
  refine pb_istore C dL_law_1781 hl (by decide) rfl fun ls hl => ?_
  have hl : lv_has ls 9 [(7, .int (iZ (z_))), (6, .int (iZ (k_))), (5, .int (iZ (((i : Nat) : Int)))), (0, .ref (b0)), (1, .ref (bO)), (2, .ref (o)), (3, .ref (oL)), (4, .ref (oD))] := hl
  refine pb_aload_n C dL_law_1783 rfl (lv_at hl 5 rfl) ?_
  refine pb_go_x (bc' := (bc + 49000 - mc)) (bs' := (bs + 228000 - ms)) (pb_runV (rest := []) C hG (met_X3_thrown l o S9 hMW9) hOp (ci := 2) rfl (lw_V q1786 q1787 q1788 q60 q1789) ⟨rfl, hdX3_thrown⟩ rfl hl.1 rfl (Nat.le_of_ble_eq_true rfl) ⟨(Nat.le_of_ble_eq_true rfl), (Nat.le_of_ble_eq_true rfl)⟩ dL_law_1784) (by omega) (by omega) ?_
  refine pb_eq (g2 := F0 m_ 1787 ls [.int (iZ (k_))]) (congrArg (fun z9 => F0 m_ 1787 ls [.int (iZ z9)]) (show (S9.1 0) = k_ from hk9)) ?_
  refine pb_iload C dL_law_1787 (lv_at hl 1 rfl) ?_
  refine pb_icmp_eq C dL_law_1789 (x := k_) (y := k_) (tgt := 1794) (by decide) (by omega) (by omega) (fun c1789_ => ?_) (fun c1789_ => ?_)
  · refine pb_iload C dL_law_1794 (lv_at hl 1 rfl) ?_
    refine pb_if_ne C dL_law_1796 (x := k_) (tgt := 1811) (by decide) (by omega) (fun c1796_ => ?_) (fun c1796_ => ?_)
    · refine pb_goto C dL_law_1811 (tgt := 3538) (by decide) ?_
      exact pb_V.mono (by omega) (by omega) (kk H3 S9 ls hG hX hLI (lv_sub hl [2, 3, 4, 5, 6, 7] rfl))
    · obtain ⟨hzr, g9, hA9⟩ := hv9 c1796_
      refine pb_aload_n C dL_law_1799 rfl (lv_at hl 6 rfl) ?_
      refine pb_ic C dL_law_1800 ?_
      refine pb_lald C hA9.b (i := 0) (v := .long (lZ (z_))) (by omega) (if_pos rfl) dL_law_1801 ?_
      refine pb_iload C dL_law_1802 (lv_at hl 0 rfl) ?_
      refine pb_i2l C dL_law_1804 (x := z_) (by omega) ?_
      refine pb_lcmpE C (x := lZ z_) dL_law_1805 ?_
      refine pb_if_eq C dL_law_1806 (x := 0) (tgt := 1811) (by decide) (by omega) (fun c1806_ => ?_) (fun c1806_ => ?_)
      · refine pb_goto C dL_law_1811 (tgt := 3538) (by decide) ?_
        exact pb_V.mono (by omega) (by omega) (kk H3 S9 ls hG hX hLI (lv_sub hl [2, 3, 4, 5, 6, 7] rfl))
      · exact absurd c1806_ (by decide)
  · exact absurd rfl c1789_

set_option maxHeartbeats 1000000 in
theorem blk_partCount {w : pb_W} {p : Program} {l : Launch} {e : Env} {s : State} {m_ : MethodId} {below : List Frame} {meth : Method} {c : Code} {Q : State → Prop} {b0 L : Nat} {xs : Nat → Int32} (C : pb_C w p s m_ meth c #[.ref b0] cL_law 9 RX0 meth.name ret) (hN : pb_Nc s) {H : Heap} (hG : pb_G w s H) (hX : va_X b0 L xs s H) (hb0 : b0 < w.2.2.2) (i : Nat) (hi : i + 6 ≤ L) (hL : L ≤ 144) (bO sl o oL oD : Nat) (S : mS) (hLI : LWI w H bO sl o oL oD S)  (hst : StepI w l yX0_partCount cX0_partCount 4 [(0, 9, 12, 13)] yX3_partCount cX3_partCount 2 .int  [.ref bO, .int (iZ (xz xs (i + 1))), .ref oL] [.ref o, .int (iZ (xz xs (i + 1)))] H bO sl o oL oD) (bc bs : Nat) (ls : Array Slot) (hl : lv_has ls 9 [(5, .int (iZ ((i : Nat) : Int))), (0, .ref b0), (1, .ref bO), (2, .ref o), (3, .ref oL), (4, .ref oD)]) (kk : ∀ (H3 : Heap) (S3 : mS) (ls : Array Slot), pb_G w s H3 → va_X b0 L xs s H3 → LWI w H3 bO sl o oL oD S3 → lv_has ls 9 [(5, .int (iZ ((i : Nat) : Int))), (0, .ref b0), (1, .ref bO), (2, .ref o), (3, .ref oL), (4, .ref oD)] → pb_V w.2.2.2 p l e room_1 s m_ #[.ref b0] below meth c H3 bc bs Q (F0 m_ 3538 ls [])) : pb_V w.2.2.2 p l e room_1 s m_ #[.ref b0] below meth c H (bc + 49000) (bs + 228000) Q (F0 m_ 1814 ls []) := by
  obtain ⟨mc, ms, dd, postW, postX, hmc, hms, hdd, hW, h2, h3⟩ := hst
  refine pb_aload_n C dL_law_1814 rfl (lv_at hl 2 rfl) ?_
  refine pb_aload_n C dL_law_1815 rfl (lv_at hl 1 rfl) ?_
  refine pb_iload C dL_law_1816 (lv_at hl 0 rfl) ?_
  refine pb_ic C dL_law_1818 ?_
  refine pb_iadd C dL_law_1819 ?_
  refine pb_sldN C hX (i := (i + 1)) (by omega) dL_law_1820 ?_
  refine pb_aload_n C dL_law_1821 rfl (lv_at hl 4 rfl) ?_
  refine pb_go_i (bc' := bc + 49000 - mc) (bs' := bs + 228000 - ms) (pb_runSW (rest := []) C hG hN hW (lw_SW q1199 q1200 q50 q1201) hdX0_partCount rfl hl.1 rfl (Nat.le_of_ble_eq_true rfl) ⟨(Nat.le_of_ble_eq_true rfl), (Nat.le_of_ble_eq_true rfl)⟩ dL_law_1822) (by omega) (by omega) (fun k_ H2 hp2 => ?_)
  obtain ⟨f2, hkr, ⟨fsO, hOo⟩, hM3⟩ := h2 _ _ hp2
  have hG := hG.kept f2
  have hX := hX.kept (f2.2 _ (by have := hX.lt; omega) hb0)
  refine pb_istore C dL_law_1825 hl (by decide) rfl fun ls hl => ?_
  have hl : lv_has ls 9 [(6, .int (iZ (k_))), (5, .int (iZ (((i : Nat) : Int)))), (0, .ref (b0)), (1, .ref (bO)), (2, .ref (o)), (3, .ref (oL)), (4, .ref (oD))] := hl
  refine pb_aload_n C dL_law_1827 rfl (lv_at hl 4 rfl) ?_
  refine pb_aload_n C dL_law_1828 rfl (lv_at hl 2 rfl) ?_
  refine pb_iload C dL_law_1829 (lv_at hl 1 rfl) ?_
  refine pb_ic C dL_law_1831 ?_
  refine pb_iadd C dL_law_1832 ?_
  refine pb_sldN C hX (i := (i + 1)) (by omega) dL_law_1833 ?_
  refine pb_go_i (bc' := (bc + 49000 - mc)) (bs' := (bs + 228000 - ms)) (pb_runV (rest := []) C hG (hM3) hOo (ci := 2) rfl (lw_V q1963 q1964 q1965 q60 q1966) ⟨rfl, hdX3_partCount⟩ rfl hl.1 rfl (Nat.le_of_ble_eq_true rfl) ⟨show dd + 1 ≤ 27 from by omega, show 8 + (2 + 11) + 64 * dd ≤ 11162 from by omega⟩ dL_law_1834) (by omega) (by omega) (fun z_ H3 hp_ => ?_)
  obtain ⟨f3, S9, hMW9, hk9, hv9, hb9, hLI⟩ := h3 _ _ _ _ hp2 hp_
  have hG := hG.kept f3
  have hX := hX.kept (f3.2 _ (by have := hX.lt; omega) hb0)
  obtain ⟨fsP, hOp⟩ := hMW9.o
  refine pb_istore C dL_law_1837 hl (by decide) rfl fun ls hl => ?_
  have hl : lv_has ls 9 [(7, .int (iZ (z_))), (6, .int (iZ (k_))), (5, .int (iZ (((i : Nat) : Int)))), (0, .ref (b0)), (1, .ref (bO)), (2, .ref (o)), (3, .ref (oL)), (4, .ref (oD))] := hl
  refine pb_aload_n C dL_law_1839 rfl (lv_at hl 5 rfl) ?_
  refine pb_go_x (bc' := (bc + 49000 - mc)) (bs' := (bs + 228000 - ms)) (pb_runV (rest := []) C hG (met_X3_thrown l o S9 hMW9) hOp (ci := 2) rfl (lw_V q1786 q1787 q1788 q60 q1789) ⟨rfl, hdX3_thrown⟩ rfl hl.1 rfl (Nat.le_of_ble_eq_true rfl) ⟨(Nat.le_of_ble_eq_true rfl), (Nat.le_of_ble_eq_true rfl)⟩ dL_law_1840) (by omega) (by omega) ?_
  refine pb_eq (g2 := F0 m_ 1843 ls [.int (iZ (k_))]) (congrArg (fun z9 => F0 m_ 1843 ls [.int (iZ z9)]) (show (S9.1 0) = k_ from hk9)) ?_
  refine pb_iload C dL_law_1843 (lv_at hl 1 rfl) ?_
  refine pb_icmp_eq C dL_law_1845 (x := k_) (y := k_) (tgt := 1850) (by decide) (by omega) (by omega) (fun c1845_ => ?_) (fun c1845_ => ?_)
  · refine pb_iload C dL_law_1850 (lv_at hl 1 rfl) ?_
    refine pb_if_ne C dL_law_1852 (x := k_) (tgt := 1867) (by decide) (by omega) (fun c1852_ => ?_) (fun c1852_ => ?_)
    · refine pb_goto C dL_law_1867 (tgt := 3538) (by decide) ?_
      exact pb_V.mono (by omega) (by omega) (kk H3 S9 ls hG hX hLI (lv_sub hl [2, 3, 4, 5, 6, 7] rfl))
    · obtain ⟨hzr, g9, hA9⟩ := hv9 c1852_
      refine pb_aload_n C dL_law_1855 rfl (lv_at hl 6 rfl) ?_
      refine pb_ic C dL_law_1856 ?_
      refine pb_lald C hA9.b (i := 0) (v := .long (lZ (z_))) (by omega) (if_pos rfl) dL_law_1857 ?_
      refine pb_iload C dL_law_1858 (lv_at hl 0 rfl) ?_
      refine pb_i2l C dL_law_1860 (x := z_) (by omega) ?_
      refine pb_lcmpE C (x := lZ z_) dL_law_1861 ?_
      refine pb_if_eq C dL_law_1862 (x := 0) (tgt := 1867) (by decide) (by omega) (fun c1862_ => ?_) (fun c1862_ => ?_)
      · refine pb_goto C dL_law_1867 (tgt := 3538) (by decide) ?_
        exact pb_V.mono (by omega) (by omega) (kk H3 S9 ls hG hX hLI (lv_sub hl [2, 3, 4, 5, 6, 7] rfl))
      · exact absurd c1862_ (by decide)
  · exact absurd rfl c1845_

set_option maxHeartbeats 1000000 in
theorem blk_partCountByCells {w : pb_W} {p : Program} {l : Launch} {e : Env} {s : State} {m_ : MethodId} {below : List Frame} {meth : Method} {c : Code} {Q : State → Prop} {b0 L : Nat} {xs : Nat → Int32} (C : pb_C w p s m_ meth c #[.ref b0] cL_law 9 RX0 meth.name ret) (hN : pb_Nc s) {H : Heap} (hG : pb_G w s H) (hX : va_X b0 L xs s H) (hb0 : b0 < w.2.2.2) (i : Nat) (hi : i + 6 ≤ L) (hL : L ≤ 144) (bO sl o oL oD : Nat) (S : mS) (hLI : LWI w H bO sl o oL oD S)  (hst : StepI w l yX0_partCountByCells cX0_partCountByCells 4 [(0, 9, 12, 13)] yX3_partCountByCells cX3_partCountByCells 2 .int  [.ref bO, .int (iZ (xz xs (i + 1))), .ref oL] [.ref o, .int (iZ (xz xs (i + 1)))] H bO sl o oL oD) (bc bs : Nat) (ls : Array Slot) (hl : lv_has ls 9 [(5, .int (iZ ((i : Nat) : Int))), (0, .ref b0), (1, .ref bO), (2, .ref o), (3, .ref oL), (4, .ref oD)]) (kk : ∀ (H3 : Heap) (S3 : mS) (ls : Array Slot), pb_G w s H3 → va_X b0 L xs s H3 → LWI w H3 bO sl o oL oD S3 → lv_has ls 9 [(5, .int (iZ ((i : Nat) : Int))), (0, .ref b0), (1, .ref bO), (2, .ref o), (3, .ref oL), (4, .ref oD)] → pb_V w.2.2.2 p l e room_1 s m_ #[.ref b0] below meth c H3 bc bs Q (F0 m_ 3538 ls [])) : pb_V w.2.2.2 p l e room_1 s m_ #[.ref b0] below meth c H (bc + 49000) (bs + 228000) Q (F0 m_ 1870 ls []) := by
  obtain ⟨mc, ms, dd, postW, postX, hmc, hms, hdd, hW, h2, h3⟩ := hst
  refine pb_aload_n C dL_law_1870 rfl (lv_at hl 2 rfl) ?_
  refine pb_aload_n C dL_law_1871 rfl (lv_at hl 1 rfl) ?_
  refine pb_iload C dL_law_1872 (lv_at hl 0 rfl) ?_
  refine pb_ic C dL_law_1874 ?_
  refine pb_iadd C dL_law_1875 ?_
  refine pb_sldN C hX (i := (i + 1)) (by omega) dL_law_1876 ?_
  refine pb_aload_n C dL_law_1877 rfl (lv_at hl 4 rfl) ?_
  refine pb_go_i (bc' := bc + 49000 - mc) (bs' := bs + 228000 - ms) (pb_runSW (rest := []) C hG hN hW (lw_SW q1206 q1207 q50 q1208) hdX0_partCountByCells rfl hl.1 rfl (Nat.le_of_ble_eq_true rfl) ⟨(Nat.le_of_ble_eq_true rfl), (Nat.le_of_ble_eq_true rfl)⟩ dL_law_1878) (by omega) (by omega) (fun k_ H2 hp2 => ?_)
  obtain ⟨f2, hkr, ⟨fsO, hOo⟩, hM3⟩ := h2 _ _ hp2
  have hG := hG.kept f2
  have hX := hX.kept (f2.2 _ (by have := hX.lt; omega) hb0)
  refine pb_istore C dL_law_1881 hl (by decide) rfl fun ls hl => ?_
  have hl : lv_has ls 9 [(6, .int (iZ (k_))), (5, .int (iZ (((i : Nat) : Int)))), (0, .ref (b0)), (1, .ref (bO)), (2, .ref (o)), (3, .ref (oL)), (4, .ref (oD))] := hl
  refine pb_aload_n C dL_law_1883 rfl (lv_at hl 4 rfl) ?_
  refine pb_aload_n C dL_law_1884 rfl (lv_at hl 2 rfl) ?_
  refine pb_iload C dL_law_1885 (lv_at hl 1 rfl) ?_
  refine pb_ic C dL_law_1887 ?_
  refine pb_iadd C dL_law_1888 ?_
  refine pb_sldN C hX (i := (i + 1)) (by omega) dL_law_1889 ?_
  refine pb_go_i (bc' := (bc + 49000 - mc)) (bs' := (bs + 228000 - ms)) (pb_runV (rest := []) C hG (hM3) hOo (ci := 2) rfl (lw_V q1971 q1972 q1973 q60 q1974) ⟨rfl, hdX3_partCountByCells⟩ rfl hl.1 rfl (Nat.le_of_ble_eq_true rfl) ⟨show dd + 1 ≤ 27 from by omega, show 8 + (2 + 11) + 64 * dd ≤ 11162 from by omega⟩ dL_law_1890) (by omega) (by omega) (fun z_ H3 hp_ => ?_)
  obtain ⟨f3, S9, hMW9, hk9, hv9, hb9, hLI⟩ := h3 _ _ _ _ hp2 hp_
  have hG := hG.kept f3
  have hX := hX.kept (f3.2 _ (by have := hX.lt; omega) hb0)
  obtain ⟨fsP, hOp⟩ := hMW9.o
  refine pb_istore C dL_law_1893 hl (by decide) rfl fun ls hl => ?_
  have hl : lv_has ls 9 [(7, .int (iZ (z_))), (6, .int (iZ (k_))), (5, .int (iZ (((i : Nat) : Int)))), (0, .ref (b0)), (1, .ref (bO)), (2, .ref (o)), (3, .ref (oL)), (4, .ref (oD))] := hl
  refine pb_aload_n C dL_law_1895 rfl (lv_at hl 5 rfl) ?_
  refine pb_go_x (bc' := (bc + 49000 - mc)) (bs' := (bs + 228000 - ms)) (pb_runV (rest := []) C hG (met_X3_thrown l o S9 hMW9) hOp (ci := 2) rfl (lw_V q1786 q1787 q1788 q60 q1789) ⟨rfl, hdX3_thrown⟩ rfl hl.1 rfl (Nat.le_of_ble_eq_true rfl) ⟨(Nat.le_of_ble_eq_true rfl), (Nat.le_of_ble_eq_true rfl)⟩ dL_law_1896) (by omega) (by omega) ?_
  refine pb_eq (g2 := F0 m_ 1899 ls [.int (iZ (k_))]) (congrArg (fun z9 => F0 m_ 1899 ls [.int (iZ z9)]) (show (S9.1 0) = k_ from hk9)) ?_
  refine pb_iload C dL_law_1899 (lv_at hl 1 rfl) ?_
  refine pb_icmp_eq C dL_law_1901 (x := k_) (y := k_) (tgt := 1906) (by decide) (by omega) (by omega) (fun c1901_ => ?_) (fun c1901_ => ?_)
  · refine pb_iload C dL_law_1906 (lv_at hl 1 rfl) ?_
    refine pb_if_ne C dL_law_1908 (x := k_) (tgt := 1923) (by decide) (by omega) (fun c1908_ => ?_) (fun c1908_ => ?_)
    · refine pb_goto C dL_law_1923 (tgt := 3538) (by decide) ?_
      exact pb_V.mono (by omega) (by omega) (kk H3 S9 ls hG hX hLI (lv_sub hl [2, 3, 4, 5, 6, 7] rfl))
    · obtain ⟨hzr, g9, hA9⟩ := hv9 c1908_
      refine pb_aload_n C dL_law_1911 rfl (lv_at hl 6 rfl) ?_
      refine pb_ic C dL_law_1912 ?_
      refine pb_lald C hA9.b (i := 0) (v := .long (lZ (z_))) (by omega) (if_pos rfl) dL_law_1913 ?_
      refine pb_iload C dL_law_1914 (lv_at hl 0 rfl) ?_
      refine pb_i2l C dL_law_1916 (x := z_) (by omega) ?_
      refine pb_lcmpE C (x := lZ z_) dL_law_1917 ?_
      refine pb_if_eq C dL_law_1918 (x := 0) (tgt := 1923) (by decide) (by omega) (fun c1918_ => ?_) (fun c1918_ => ?_)
      · refine pb_goto C dL_law_1923 (tgt := 3538) (by decide) ?_
        exact pb_V.mono (by omega) (by omega) (kk H3 S9 ls hG hX hLI (lv_sub hl [2, 3, 4, 5, 6, 7] rfl))
      · exact absurd c1918_ (by decide)
  · exact absurd rfl c1901_

set_option maxHeartbeats 1000000 in
theorem blk_holeCount {w : pb_W} {p : Program} {l : Launch} {e : Env} {s : State} {m_ : MethodId} {below : List Frame} {meth : Method} {c : Code} {Q : State → Prop} {b0 L : Nat} {xs : Nat → Int32} (C : pb_C w p s m_ meth c #[.ref b0] cL_law 9 RX0 meth.name ret) (hN : pb_Nc s) {H : Heap} (hG : pb_G w s H) (hX : va_X b0 L xs s H) (hb0 : b0 < w.2.2.2) (i : Nat) (hi : i + 6 ≤ L) (hL : L ≤ 144) (bO sl o oL oD : Nat) (S : mS) (hLI : LWI w H bO sl o oL oD S)  (hst : StepI w l yX0_holeCount cX0_holeCount 4 [(0, 9, 12, 13)] yX3_holeCount cX3_holeCount 2 .int  [.ref bO, .int (iZ (xz xs (i + 1))), .ref oL] [.ref o, .int (iZ (xz xs (i + 1)))] H bO sl o oL oD) (bc bs : Nat) (ls : Array Slot) (hl : lv_has ls 9 [(5, .int (iZ ((i : Nat) : Int))), (0, .ref b0), (1, .ref bO), (2, .ref o), (3, .ref oL), (4, .ref oD)]) (kk : ∀ (H3 : Heap) (S3 : mS) (ls : Array Slot), pb_G w s H3 → va_X b0 L xs s H3 → LWI w H3 bO sl o oL oD S3 → lv_has ls 9 [(5, .int (iZ ((i : Nat) : Int))), (0, .ref b0), (1, .ref bO), (2, .ref o), (3, .ref oL), (4, .ref oD)] → pb_V w.2.2.2 p l e room_1 s m_ #[.ref b0] below meth c H3 bc bs Q (F0 m_ 3538 ls [])) : pb_V w.2.2.2 p l e room_1 s m_ #[.ref b0] below meth c H (bc + 49000) (bs + 228000) Q (F0 m_ 1926 ls []) := by
  obtain ⟨mc, ms, dd, postW, postX, hmc, hms, hdd, hW, h2, h3⟩ := hst
  refine pb_aload_n C dL_law_1926 rfl (lv_at hl 2 rfl) ?_
  refine pb_aload_n C dL_law_1927 rfl (lv_at hl 1 rfl) ?_
  refine pb_iload C dL_law_1928 (lv_at hl 0 rfl) ?_
  refine pb_ic C dL_law_1930 ?_
  refine pb_iadd C dL_law_1931 ?_
  refine pb_sldN C hX (i := (i + 1)) (by omega) dL_law_1932 ?_
  refine pb_aload_n C dL_law_1933 rfl (lv_at hl 4 rfl) ?_
  refine pb_go_i (bc' := bc + 49000 - mc) (bs' := bs + 228000 - ms) (pb_runSW (rest := []) C hG hN hW (lw_SW q1217 q1218 q50 q1219) hdX0_holeCount rfl hl.1 rfl (Nat.le_of_ble_eq_true rfl) ⟨(Nat.le_of_ble_eq_true rfl), (Nat.le_of_ble_eq_true rfl)⟩ dL_law_1934) (by omega) (by omega) (fun k_ H2 hp2 => ?_)
  obtain ⟨f2, hkr, ⟨fsO, hOo⟩, hM3⟩ := h2 _ _ hp2
  have hG := hG.kept f2
  have hX := hX.kept (f2.2 _ (by have := hX.lt; omega) hb0)
  refine pb_istore C dL_law_1937 hl (by decide) rfl fun ls hl => ?_
  have hl : lv_has ls 9 [(6, .int (iZ (k_))), (5, .int (iZ (((i : Nat) : Int)))), (0, .ref (b0)), (1, .ref (bO)), (2, .ref (o)), (3, .ref (oL)), (4, .ref (oD))] := hl
  refine pb_aload_n C dL_law_1939 rfl (lv_at hl 4 rfl) ?_
  refine pb_aload_n C dL_law_1940 rfl (lv_at hl 2 rfl) ?_
  refine pb_iload C dL_law_1941 (lv_at hl 1 rfl) ?_
  refine pb_ic C dL_law_1943 ?_
  refine pb_iadd C dL_law_1944 ?_
  refine pb_sldN C hX (i := (i + 1)) (by omega) dL_law_1945 ?_
  refine pb_go_i (bc' := (bc + 49000 - mc)) (bs' := (bs + 228000 - ms)) (pb_runV (rest := []) C hG (hM3) hOo (ci := 2) rfl (lw_V q1976 q1977 q1978 q60 q1979) ⟨rfl, hdX3_holeCount⟩ rfl hl.1 rfl (Nat.le_of_ble_eq_true rfl) ⟨show dd + 1 ≤ 27 from by omega, show 8 + (2 + 11) + 64 * dd ≤ 11162 from by omega⟩ dL_law_1946) (by omega) (by omega) (fun z_ H3 hp_ => ?_)
  obtain ⟨f3, S9, hMW9, hk9, hv9, hb9, hLI⟩ := h3 _ _ _ _ hp2 hp_
  have hG := hG.kept f3
  have hX := hX.kept (f3.2 _ (by have := hX.lt; omega) hb0)
  obtain ⟨fsP, hOp⟩ := hMW9.o
  refine pb_istore C dL_law_1949 hl (by decide) rfl fun ls hl => ?_
  have hl : lv_has ls 9 [(7, .int (iZ (z_))), (6, .int (iZ (k_))), (5, .int (iZ (((i : Nat) : Int)))), (0, .ref (b0)), (1, .ref (bO)), (2, .ref (o)), (3, .ref (oL)), (4, .ref (oD))] := hl
  refine pb_aload_n C dL_law_1951 rfl (lv_at hl 5 rfl) ?_
  refine pb_go_x (bc' := (bc + 49000 - mc)) (bs' := (bs + 228000 - ms)) (pb_runV (rest := []) C hG (met_X3_thrown l o S9 hMW9) hOp (ci := 2) rfl (lw_V q1786 q1787 q1788 q60 q1789) ⟨rfl, hdX3_thrown⟩ rfl hl.1 rfl (Nat.le_of_ble_eq_true rfl) ⟨(Nat.le_of_ble_eq_true rfl), (Nat.le_of_ble_eq_true rfl)⟩ dL_law_1952) (by omega) (by omega) ?_
  refine pb_eq (g2 := F0 m_ 1955 ls [.int (iZ (k_))]) (congrArg (fun z9 => F0 m_ 1955 ls [.int (iZ z9)]) (show (S9.1 0) = k_ from hk9)) ?_
  refine pb_iload C dL_law_1955 (lv_at hl 1 rfl) ?_
  refine pb_icmp_eq C dL_law_1957 (x := k_) (y := k_) (tgt := 1962) (by decide) (by omega) (by omega) (fun c1957_ => ?_) (fun c1957_ => ?_)
  · refine pb_iload C dL_law_1962 (lv_at hl 1 rfl) ?_
    refine pb_if_ne C dL_law_1964 (x := k_) (tgt := 1979) (by decide) (by omega) (fun c1964_ => ?_) (fun c1964_ => ?_)
    · refine pb_goto C dL_law_1979 (tgt := 3538) (by decide) ?_
      exact pb_V.mono (by omega) (by omega) (kk H3 S9 ls hG hX hLI (lv_sub hl [2, 3, 4, 5, 6, 7] rfl))
    · obtain ⟨hzr, g9, hA9⟩ := hv9 c1964_
      refine pb_aload_n C dL_law_1967 rfl (lv_at hl 6 rfl) ?_
      refine pb_ic C dL_law_1968 ?_
      refine pb_lald C hA9.b (i := 0) (v := .long (lZ (z_))) (by omega) (if_pos rfl) dL_law_1969 ?_
      refine pb_iload C dL_law_1970 (lv_at hl 0 rfl) ?_
      refine pb_i2l C dL_law_1972 (x := z_) (by omega) ?_
      refine pb_lcmpE C (x := lZ z_) dL_law_1973 ?_
      refine pb_if_eq C dL_law_1974 (x := 0) (tgt := 1979) (by decide) (by omega) (fun c1974_ => ?_) (fun c1974_ => ?_)
      · refine pb_goto C dL_law_1979 (tgt := 3538) (by decide) ?_
        exact pb_V.mono (by omega) (by omega) (kk H3 S9 ls hG hX hLI (lv_sub hl [2, 3, 4, 5, 6, 7] rfl))
      · exact absurd c1974_ (by decide)
  · exact absurd rfl c1957_

set_option maxHeartbeats 1000000 in
theorem blk_holeCountByCells {w : pb_W} {p : Program} {l : Launch} {e : Env} {s : State} {m_ : MethodId} {below : List Frame} {meth : Method} {c : Code} {Q : State → Prop} {b0 L : Nat} {xs : Nat → Int32} (C : pb_C w p s m_ meth c #[.ref b0] cL_law 9 RX0 meth.name ret) (hN : pb_Nc s) {H : Heap} (hG : pb_G w s H) (hX : va_X b0 L xs s H) (hb0 : b0 < w.2.2.2) (i : Nat) (hi : i + 6 ≤ L) (hL : L ≤ 144) (bO sl o oL oD : Nat) (S : mS) (hLI : LWI w H bO sl o oL oD S)  (hst : StepI w l yX0_holeCountByCells cX0_holeCountByCells 4 [(0, 9, 12, 13)] yX3_holeCountByCells cX3_holeCountByCells 2 .int  [.ref bO, .int (iZ (xz xs (i + 1))), .ref oL] [.ref o, .int (iZ (xz xs (i + 1)))] H bO sl o oL oD) (bc bs : Nat) (ls : Array Slot) (hl : lv_has ls 9 [(5, .int (iZ ((i : Nat) : Int))), (0, .ref b0), (1, .ref bO), (2, .ref o), (3, .ref oL), (4, .ref oD)]) (kk : ∀ (H3 : Heap) (S3 : mS) (ls : Array Slot), pb_G w s H3 → va_X b0 L xs s H3 → LWI w H3 bO sl o oL oD S3 → lv_has ls 9 [(5, .int (iZ ((i : Nat) : Int))), (0, .ref b0), (1, .ref bO), (2, .ref o), (3, .ref oL), (4, .ref oD)] → pb_V w.2.2.2 p l e room_1 s m_ #[.ref b0] below meth c H3 bc bs Q (F0 m_ 3538 ls [])) : pb_V w.2.2.2 p l e room_1 s m_ #[.ref b0] below meth c H (bc + 49000) (bs + 228000) Q (F0 m_ 1982 ls []) := by
  obtain ⟨mc, ms, dd, postW, postX, hmc, hms, hdd, hW, h2, h3⟩ := hst
  refine pb_aload_n C dL_law_1982 rfl (lv_at hl 2 rfl) ?_
  refine pb_aload_n C dL_law_1983 rfl (lv_at hl 1 rfl) ?_
  refine pb_iload C dL_law_1984 (lv_at hl 0 rfl) ?_
  refine pb_ic C dL_law_1986 ?_
  refine pb_iadd C dL_law_1987 ?_
  refine pb_sldN C hX (i := (i + 1)) (by omega) dL_law_1988 ?_
  refine pb_aload_n C dL_law_1989 rfl (lv_at hl 4 rfl) ?_
  refine pb_go_i (bc' := bc + 49000 - mc) (bs' := bs + 228000 - ms) (pb_runSW (rest := []) C hG hN hW (lw_SW q1323 q1324 q50 q1325) hdX0_holeCountByCells rfl hl.1 rfl (Nat.le_of_ble_eq_true rfl) ⟨(Nat.le_of_ble_eq_true rfl), (Nat.le_of_ble_eq_true rfl)⟩ dL_law_1990) (by omega) (by omega) (fun k_ H2 hp2 => ?_)
  obtain ⟨f2, hkr, ⟨fsO, hOo⟩, hM3⟩ := h2 _ _ hp2
  have hG := hG.kept f2
  have hX := hX.kept (f2.2 _ (by have := hX.lt; omega) hb0)
  refine pb_istore C dL_law_1993 hl (by decide) rfl fun ls hl => ?_
  have hl : lv_has ls 9 [(6, .int (iZ (k_))), (5, .int (iZ (((i : Nat) : Int)))), (0, .ref (b0)), (1, .ref (bO)), (2, .ref (o)), (3, .ref (oL)), (4, .ref (oD))] := hl
  refine pb_aload_n C dL_law_1995 rfl (lv_at hl 4 rfl) ?_
  refine pb_aload_n C dL_law_1996 rfl (lv_at hl 2 rfl) ?_
  refine pb_iload C dL_law_1997 (lv_at hl 1 rfl) ?_
  refine pb_ic C dL_law_1999 ?_
  refine pb_iadd C dL_law_2000 ?_
  refine pb_sldN C hX (i := (i + 1)) (by omega) dL_law_2001 ?_
  refine pb_go_i (bc' := (bc + 49000 - mc)) (bs' := (bs + 228000 - ms)) (pb_runV (rest := []) C hG (hM3) hOo (ci := 2) rfl (lw_V q1980 q1981 q1982 q60 q1983) ⟨rfl, hdX3_holeCountByCells⟩ rfl hl.1 rfl (Nat.le_of_ble_eq_true rfl) ⟨show dd + 1 ≤ 27 from by omega, show 8 + (2 + 11) + 64 * dd ≤ 11162 from by omega⟩ dL_law_2002) (by omega) (by omega) (fun z_ H3 hp_ => ?_)
  obtain ⟨f3, S9, hMW9, hk9, hv9, hb9, hLI⟩ := h3 _ _ _ _ hp2 hp_
  have hG := hG.kept f3
  have hX := hX.kept (f3.2 _ (by have := hX.lt; omega) hb0)
  obtain ⟨fsP, hOp⟩ := hMW9.o
  refine pb_istore C dL_law_2005 hl (by decide) rfl fun ls hl => ?_
  have hl : lv_has ls 9 [(7, .int (iZ (z_))), (6, .int (iZ (k_))), (5, .int (iZ (((i : Nat) : Int)))), (0, .ref (b0)), (1, .ref (bO)), (2, .ref (o)), (3, .ref (oL)), (4, .ref (oD))] := hl
  refine pb_aload_n C dL_law_2007 rfl (lv_at hl 5 rfl) ?_
  refine pb_go_x (bc' := (bc + 49000 - mc)) (bs' := (bs + 228000 - ms)) (pb_runV (rest := []) C hG (met_X3_thrown l o S9 hMW9) hOp (ci := 2) rfl (lw_V q1786 q1787 q1788 q60 q1789) ⟨rfl, hdX3_thrown⟩ rfl hl.1 rfl (Nat.le_of_ble_eq_true rfl) ⟨(Nat.le_of_ble_eq_true rfl), (Nat.le_of_ble_eq_true rfl)⟩ dL_law_2008) (by omega) (by omega) ?_
  refine pb_eq (g2 := F0 m_ 2011 ls [.int (iZ (k_))]) (congrArg (fun z9 => F0 m_ 2011 ls [.int (iZ z9)]) (show (S9.1 0) = k_ from hk9)) ?_
  refine pb_iload C dL_law_2011 (lv_at hl 1 rfl) ?_
  refine pb_icmp_eq C dL_law_2013 (x := k_) (y := k_) (tgt := 2018) (by decide) (by omega) (by omega) (fun c2013_ => ?_) (fun c2013_ => ?_)
  · refine pb_iload C dL_law_2018 (lv_at hl 1 rfl) ?_
    refine pb_if_ne C dL_law_2020 (x := k_) (tgt := 2035) (by decide) (by omega) (fun c2020_ => ?_) (fun c2020_ => ?_)
    · refine pb_goto C dL_law_2035 (tgt := 3538) (by decide) ?_
      exact pb_V.mono (by omega) (by omega) (kk H3 S9 ls hG hX hLI (lv_sub hl [2, 3, 4, 5, 6, 7] rfl))
    · obtain ⟨hzr, g9, hA9⟩ := hv9 c2020_
      refine pb_aload_n C dL_law_2023 rfl (lv_at hl 6 rfl) ?_
      refine pb_ic C dL_law_2024 ?_
      refine pb_lald C hA9.b (i := 0) (v := .long (lZ (z_))) (by omega) (if_pos rfl) dL_law_2025 ?_
      refine pb_iload C dL_law_2026 (lv_at hl 0 rfl) ?_
      refine pb_i2l C dL_law_2028 (x := z_) (by omega) ?_
      refine pb_lcmpE C (x := lZ z_) dL_law_2029 ?_
      refine pb_if_eq C dL_law_2030 (x := 0) (tgt := 2035) (by decide) (by omega) (fun c2030_ => ?_) (fun c2030_ => ?_)
      · refine pb_goto C dL_law_2035 (tgt := 3538) (by decide) ?_
        exact pb_V.mono (by omega) (by omega) (kk H3 S9 ls hG hX hLI (lv_sub hl [2, 3, 4, 5, 6, 7] rfl))
      · exact absurd c2030_ (by decide)
  · exact absurd rfl c2013_

set_option maxHeartbeats 1000000 in
theorem blk_isSame {w : pb_W} {p : Program} {l : Launch} {e : Env} {s : State} {m_ : MethodId} {below : List Frame} {meth : Method} {c : Code} {Q : State → Prop} {b0 L : Nat} {xs : Nat → Int32} (C : pb_C w p s m_ meth c #[.ref b0] cL_law 9 RX0 meth.name ret) (hN : pb_Nc s) {H : Heap} (hG : pb_G w s H) (hX : va_X b0 L xs s H) (hb0 : b0 < w.2.2.2) (i : Nat) (hi : i + 6 ≤ L) (hL : L ≤ 144) (bO sl o oL oD : Nat) (S : mS) (hLI : LWI w H bO sl o oL oD S)  (hst : StepI w l yX0_isSame cX0_isSame 5 [(0, 17, 20, 13)] yX3_isSame cX3_isSame 5 .boolean  [.ref bO, .int (iZ (xz xs (i + 1))), .int (iZ (xz xs (i + 2))), .ref oL] [.ref o, .int (iZ (xz xs (i + 1))), .int (iZ (xz xs (i + 2)))] H bO sl o oL oD) (bc bs : Nat) (ls : Array Slot) (hl : lv_has ls 9 [(5, .int (iZ ((i : Nat) : Int))), (0, .ref b0), (1, .ref bO), (2, .ref o), (3, .ref oL), (4, .ref oD)]) (kk : ∀ (H3 : Heap) (S3 : mS) (ls : Array Slot), pb_G w s H3 → va_X b0 L xs s H3 → LWI w H3 bO sl o oL oD S3 → lv_has ls 9 [(5, .int (iZ ((i : Nat) : Int))), (0, .ref b0), (1, .ref bO), (2, .ref o), (3, .ref oL), (4, .ref oD)] → pb_V w.2.2.2 p l e room_1 s m_ #[.ref b0] below meth c H3 bc bs Q (F0 m_ 3538 ls [])) : pb_V w.2.2.2 p l e room_1 s m_ #[.ref b0] below meth c H (bc + 49000) (bs + 228000) Q (F0 m_ 2038 ls []) := by
  obtain ⟨mc, ms, dd, postW, postX, hmc, hms, hdd, hW, h2, h3⟩ := hst
  refine pb_aload_n C dL_law_2038 rfl (lv_at hl 2 rfl) ?_
  refine pb_aload_n C dL_law_2039 rfl (lv_at hl 1 rfl) ?_
  refine pb_iload C dL_law_2040 (lv_at hl 0 rfl) ?_
  refine pb_ic C dL_law_2042 ?_
  refine pb_iadd C dL_law_2043 ?_
  refine pb_sldN C hX (i := (i + 1)) (by omega) dL_law_2044 ?_
  refine pb_aload_n C dL_law_2045 rfl (lv_at hl 1 rfl) ?_
  refine pb_iload C dL_law_2046 (lv_at hl 0 rfl) ?_
  refine pb_ic C dL_law_2048 ?_
  refine pb_iadd C dL_law_2049 ?_
  refine pb_sldN C hX (i := (i + 2)) (by omega) dL_law_2050 ?_
  refine pb_aload_n C dL_law_2051 rfl (lv_at hl 4 rfl) ?_
  refine pb_go_i (bc' := bc + 49000 - mc) (bs' := bs + 228000 - ms) (pb_runSW (rest := []) C hG hN hW (lw_SW q1330 q1331 q50 q1332) hdX0_isSame rfl hl.1 rfl (Nat.le_of_ble_eq_true rfl) ⟨(Nat.le_of_ble_eq_true rfl), (Nat.le_of_ble_eq_true rfl)⟩ dL_law_2052) (by omega) (by omega) (fun k_ H2 hp2 => ?_)
  obtain ⟨f2, hkr, ⟨fsO, hOo⟩, hM3⟩ := h2 _ _ hp2
  have hG := hG.kept f2
  have hX := hX.kept (f2.2 _ (by have := hX.lt; omega) hb0)
  refine pb_istore C dL_law_2055 hl (by decide) rfl fun ls hl => ?_
  have hl : lv_has ls 9 [(6, .int (iZ (k_))), (5, .int (iZ (((i : Nat) : Int)))), (0, .ref (b0)), (1, .ref (bO)), (2, .ref (o)), (3, .ref (oL)), (4, .ref (oD))] := hl
  refine pb_aload_n C dL_law_2057 rfl (lv_at hl 4 rfl) ?_
  refine pb_aload_n C dL_law_2058 rfl (lv_at hl 2 rfl) ?_
  refine pb_iload C dL_law_2059 (lv_at hl 1 rfl) ?_
  refine pb_ic C dL_law_2061 ?_
  refine pb_iadd C dL_law_2062 ?_
  refine pb_sldN C hX (i := (i + 1)) (by omega) dL_law_2063 ?_
  refine pb_aload_n C dL_law_2064 rfl (lv_at hl 2 rfl) ?_
  refine pb_iload C dL_law_2065 (lv_at hl 1 rfl) ?_
  refine pb_ic C dL_law_2067 ?_
  refine pb_iadd C dL_law_2068 ?_
  refine pb_sldN C hX (i := (i + 2)) (by omega) dL_law_2069 ?_
  refine pb_go_i (bc' := (bc + 49000 - mc)) (bs' := (bs + 228000 - ms)) (pb_runV (rest := []) C hG (hM3) hOo (ci := 2) rfl (lw_V q1985 q1986 q1987 q60 q1988) ⟨rfl, hdX3_isSame⟩ rfl hl.1 rfl (Nat.le_of_ble_eq_true rfl) ⟨show dd + 1 ≤ 27 from by omega, show 8 + (5 + 11) + 64 * dd ≤ 11162 from by omega⟩ dL_law_2070) (by omega) (by omega) (fun z_ H3 hp_ => ?_)
  obtain ⟨f3, S9, hMW9, hk9, hv9, hb9, hLI⟩ := h3 _ _ _ _ hp2 hp_
  have hG := hG.kept f3
  have hX := hX.kept (f3.2 _ (by have := hX.lt; omega) hb0)
  obtain ⟨fsP, hOp⟩ := hMW9.o
  refine pb_istore C dL_law_2073 hl (by decide) rfl fun ls hl => ?_
  have hl : lv_has ls 9 [(7, .int (iZ (z_))), (6, .int (iZ (k_))), (5, .int (iZ (((i : Nat) : Int)))), (0, .ref (b0)), (1, .ref (bO)), (2, .ref (o)), (3, .ref (oL)), (4, .ref (oD))] := hl
  refine pb_aload_n C dL_law_2075 rfl (lv_at hl 5 rfl) ?_
  refine pb_go_x (bc' := (bc + 49000 - mc)) (bs' := (bs + 228000 - ms)) (pb_runV (rest := []) C hG (met_X3_thrown l o S9 hMW9) hOp (ci := 2) rfl (lw_V q1786 q1787 q1788 q60 q1789) ⟨rfl, hdX3_thrown⟩ rfl hl.1 rfl (Nat.le_of_ble_eq_true rfl) ⟨(Nat.le_of_ble_eq_true rfl), (Nat.le_of_ble_eq_true rfl)⟩ dL_law_2076) (by omega) (by omega) ?_
  refine pb_eq (g2 := F0 m_ 2079 ls [.int (iZ (k_))]) (congrArg (fun z9 => F0 m_ 2079 ls [.int (iZ z9)]) (show (S9.1 0) = k_ from hk9)) ?_
  refine pb_iload C dL_law_2079 (lv_at hl 1 rfl) ?_
  refine pb_icmp_eq C dL_law_2081 (x := k_) (y := k_) (tgt := 2086) (by decide) (by omega) (by omega) (fun c2081_ => ?_) (fun c2081_ => ?_)
  · refine pb_iload C dL_law_2086 (lv_at hl 1 rfl) ?_
    refine pb_if_ne C dL_law_2088 (x := k_) (tgt := 2110) (by decide) (by omega) (fun c2088_ => ?_) (fun c2088_ => ?_)
    · refine pb_goto C dL_law_2110 (tgt := 3538) (by decide) ?_
      exact pb_V.mono (by omega) (by omega) (kk H3 S9 ls hG hX hLI (lv_sub hl [2, 3, 4, 5, 6, 7] rfl))
    · obtain ⟨hzr, g9, hA9⟩ := hv9 c2088_
      refine pb_aload_n C dL_law_2091 rfl (lv_at hl 6 rfl) ?_
      refine pb_ic C dL_law_2092 ?_
      refine pb_lald C hA9.b (i := 0) (v := .long (lZ (z_))) (by omega) (if_pos rfl) dL_law_2093 ?_
      refine pb_iload C dL_law_2094 (lv_at hl 0 rfl) ?_
      refine pb_if_eq C dL_law_2096 (x := z_) (tgt := 2103) (by decide) (by omega) (fun c2096_ => ?_) (fun c2096_ => ?_)
      · obtain rfl : z_ = 0 := c2096_
        refine pb_lc C dL_law_2103 (0) (by decide +kernel) ?_
        refine pb_lcmpE C (x := lZ 0) dL_law_2104 ?_
        refine pb_if_eq C dL_law_2105 (x := 0) (tgt := 2110) (by decide) (by omega) (fun c2105_ => ?_) (fun c2105_ => ?_)
        · refine pb_goto C dL_law_2110 (tgt := 3538) (by decide) ?_
          exact pb_V.mono (by omega) (by omega) (kk H3 S9 ls hG hX hLI (lv_sub hl [2, 3, 4, 5, 6, 7] rfl))
        · exact absurd c2105_ (by decide)
      · have hz9 := hb9 c2088_ rfl
        obtain rfl : z_ = 1 := by omega
        refine pb_lc C dL_law_2099 (1) (by decide +kernel) ?_
        refine pb_goto C dL_law_2100 (tgt := 2104) (by decide) ?_
        refine pb_lcmpE C (x := lZ 1) dL_law_2104 ?_
        refine pb_if_eq C dL_law_2105 (x := 0) (tgt := 2110) (by decide) (by omega) (fun c2105_ => ?_) (fun c2105_ => ?_)
        · refine pb_goto C dL_law_2110 (tgt := 3538) (by decide) ?_
          exact pb_V.mono (by omega) (by omega) (kk H3 S9 ls hG hX hLI (lv_sub hl [2, 3, 4, 5, 6, 7] rfl))
        · exact absurd c2105_ (by decide)
  · exact absurd rfl c2081_

set_option maxHeartbeats 1000000 in
theorem blk_covers {w : pb_W} {p : Program} {l : Launch} {e : Env} {s : State} {m_ : MethodId} {below : List Frame} {meth : Method} {c : Code} {Q : State → Prop} {b0 L : Nat} {xs : Nat → Int32} (C : pb_C w p s m_ meth c #[.ref b0] cL_law 9 RX0 meth.name ret) (hN : pb_Nc s) {H : Heap} (hG : pb_G w s H) (hX : va_X b0 L xs s H) (hb0 : b0 < w.2.2.2) (i : Nat) (hi : i + 6 ≤ L) (hL : L ≤ 144) (bO sl o oL oD : Nat) (S : mS) (hLI : LWI w H bO sl o oL oD S)  (hst : StepI w l yX0_covers cX0_covers 5 [(0, 17, 20, 13)] yX3_covers cX3_covers 5 .boolean  [.ref bO, .int (iZ (xz xs (i + 1))), .int (iZ (xz xs (i + 2))), .ref oL] [.ref o, .int (iZ (xz xs (i + 1))), .int (iZ (xz xs (i + 2)))] H bO sl o oL oD) (bc bs : Nat) (ls : Array Slot) (hl : lv_has ls 9 [(5, .int (iZ ((i : Nat) : Int))), (0, .ref b0), (1, .ref bO), (2, .ref o), (3, .ref oL), (4, .ref oD)]) (kk : ∀ (H3 : Heap) (S3 : mS) (ls : Array Slot), pb_G w s H3 → va_X b0 L xs s H3 → LWI w H3 bO sl o oL oD S3 → lv_has ls 9 [(5, .int (iZ ((i : Nat) : Int))), (0, .ref b0), (1, .ref bO), (2, .ref o), (3, .ref oL), (4, .ref oD)] → pb_V w.2.2.2 p l e room_1 s m_ #[.ref b0] below meth c H3 bc bs Q (F0 m_ 3538 ls [])) : pb_V w.2.2.2 p l e room_1 s m_ #[.ref b0] below meth c H (bc + 49000) (bs + 228000) Q (F0 m_ 2113 ls []) := by
  obtain ⟨mc, ms, dd, postW, postX, hmc, hms, hdd, hW, h2, h3⟩ := hst
  refine pb_aload_n C dL_law_2113 rfl (lv_at hl 2 rfl) ?_
  refine pb_aload_n C dL_law_2114 rfl (lv_at hl 1 rfl) ?_
  refine pb_iload C dL_law_2115 (lv_at hl 0 rfl) ?_
  refine pb_ic C dL_law_2117 ?_
  refine pb_iadd C dL_law_2118 ?_
  refine pb_sldN C hX (i := (i + 1)) (by omega) dL_law_2119 ?_
  refine pb_aload_n C dL_law_2120 rfl (lv_at hl 1 rfl) ?_
  refine pb_iload C dL_law_2121 (lv_at hl 0 rfl) ?_
  refine pb_ic C dL_law_2123 ?_
  refine pb_iadd C dL_law_2124 ?_
  refine pb_sldN C hX (i := (i + 2)) (by omega) dL_law_2125 ?_
  refine pb_aload_n C dL_law_2126 rfl (lv_at hl 4 rfl) ?_
  refine pb_go_i (bc' := bc + 49000 - mc) (bs' := bs + 228000 - ms) (pb_runSW (rest := []) C hG hN hW (lw_SW q1339 q1340 q50 q1341) hdX0_covers rfl hl.1 rfl (Nat.le_of_ble_eq_true rfl) ⟨(Nat.le_of_ble_eq_true rfl), (Nat.le_of_ble_eq_true rfl)⟩ dL_law_2127) (by omega) (by omega) (fun k_ H2 hp2 => ?_)
  obtain ⟨f2, hkr, ⟨fsO, hOo⟩, hM3⟩ := h2 _ _ hp2
  have hG := hG.kept f2
  have hX := hX.kept (f2.2 _ (by have := hX.lt; omega) hb0)
  refine pb_istore C dL_law_2130 hl (by decide) rfl fun ls hl => ?_
  have hl : lv_has ls 9 [(6, .int (iZ (k_))), (5, .int (iZ (((i : Nat) : Int)))), (0, .ref (b0)), (1, .ref (bO)), (2, .ref (o)), (3, .ref (oL)), (4, .ref (oD))] := hl
  refine pb_aload_n C dL_law_2132 rfl (lv_at hl 4 rfl) ?_
  refine pb_aload_n C dL_law_2133 rfl (lv_at hl 2 rfl) ?_
  refine pb_iload C dL_law_2134 (lv_at hl 1 rfl) ?_
  refine pb_ic C dL_law_2136 ?_
  refine pb_iadd C dL_law_2137 ?_
  refine pb_sldN C hX (i := (i + 1)) (by omega) dL_law_2138 ?_
  refine pb_aload_n C dL_law_2139 rfl (lv_at hl 2 rfl) ?_
  refine pb_iload C dL_law_2140 (lv_at hl 1 rfl) ?_
  refine pb_ic C dL_law_2142 ?_
  refine pb_iadd C dL_law_2143 ?_
  refine pb_sldN C hX (i := (i + 2)) (by omega) dL_law_2144 ?_
  refine pb_go_i (bc' := (bc + 49000 - mc)) (bs' := (bs + 228000 - ms)) (pb_runV (rest := []) C hG (hM3) hOo (ci := 2) rfl (lw_V q1989 q1990 q1991 q60 q1992) ⟨rfl, hdX3_covers⟩ rfl hl.1 rfl (Nat.le_of_ble_eq_true rfl) ⟨show dd + 1 ≤ 27 from by omega, show 8 + (5 + 11) + 64 * dd ≤ 11162 from by omega⟩ dL_law_2145) (by omega) (by omega) (fun z_ H3 hp_ => ?_)
  obtain ⟨f3, S9, hMW9, hk9, hv9, hb9, hLI⟩ := h3 _ _ _ _ hp2 hp_
  have hG := hG.kept f3
  have hX := hX.kept (f3.2 _ (by have := hX.lt; omega) hb0)
  obtain ⟨fsP, hOp⟩ := hMW9.o
  refine pb_istore C dL_law_2148 hl (by decide) rfl fun ls hl => ?_
  have hl : lv_has ls 9 [(7, .int (iZ (z_))), (6, .int (iZ (k_))), (5, .int (iZ (((i : Nat) : Int)))), (0, .ref (b0)), (1, .ref (bO)), (2, .ref (o)), (3, .ref (oL)), (4, .ref (oD))] := hl
  refine pb_aload_n C dL_law_2150 rfl (lv_at hl 5 rfl) ?_
  refine pb_go_x (bc' := (bc + 49000 - mc)) (bs' := (bs + 228000 - ms)) (pb_runV (rest := []) C hG (met_X3_thrown l o S9 hMW9) hOp (ci := 2) rfl (lw_V q1786 q1787 q1788 q60 q1789) ⟨rfl, hdX3_thrown⟩ rfl hl.1 rfl (Nat.le_of_ble_eq_true rfl) ⟨(Nat.le_of_ble_eq_true rfl), (Nat.le_of_ble_eq_true rfl)⟩ dL_law_2151) (by omega) (by omega) ?_
  refine pb_eq (g2 := F0 m_ 2154 ls [.int (iZ (k_))]) (congrArg (fun z9 => F0 m_ 2154 ls [.int (iZ z9)]) (show (S9.1 0) = k_ from hk9)) ?_
  refine pb_iload C dL_law_2154 (lv_at hl 1 rfl) ?_
  refine pb_icmp_eq C dL_law_2156 (x := k_) (y := k_) (tgt := 2161) (by decide) (by omega) (by omega) (fun c2156_ => ?_) (fun c2156_ => ?_)
  · refine pb_iload C dL_law_2161 (lv_at hl 1 rfl) ?_
    refine pb_if_ne C dL_law_2163 (x := k_) (tgt := 2185) (by decide) (by omega) (fun c2163_ => ?_) (fun c2163_ => ?_)
    · refine pb_goto C dL_law_2185 (tgt := 3538) (by decide) ?_
      exact pb_V.mono (by omega) (by omega) (kk H3 S9 ls hG hX hLI (lv_sub hl [2, 3, 4, 5, 6, 7] rfl))
    · obtain ⟨hzr, g9, hA9⟩ := hv9 c2163_
      refine pb_aload_n C dL_law_2166 rfl (lv_at hl 6 rfl) ?_
      refine pb_ic C dL_law_2167 ?_
      refine pb_lald C hA9.b (i := 0) (v := .long (lZ (z_))) (by omega) (if_pos rfl) dL_law_2168 ?_
      refine pb_iload C dL_law_2169 (lv_at hl 0 rfl) ?_
      refine pb_if_eq C dL_law_2171 (x := z_) (tgt := 2178) (by decide) (by omega) (fun c2171_ => ?_) (fun c2171_ => ?_)
      · obtain rfl : z_ = 0 := c2171_
        refine pb_lc C dL_law_2178 (0) (by decide +kernel) ?_
        refine pb_lcmpE C (x := lZ 0) dL_law_2179 ?_
        refine pb_if_eq C dL_law_2180 (x := 0) (tgt := 2185) (by decide) (by omega) (fun c2180_ => ?_) (fun c2180_ => ?_)
        · refine pb_goto C dL_law_2185 (tgt := 3538) (by decide) ?_
          exact pb_V.mono (by omega) (by omega) (kk H3 S9 ls hG hX hLI (lv_sub hl [2, 3, 4, 5, 6, 7] rfl))
        · exact absurd c2180_ (by decide)
      · have hz9 := hb9 c2163_ rfl
        obtain rfl : z_ = 1 := by omega
        refine pb_lc C dL_law_2174 (1) (by decide +kernel) ?_
        refine pb_goto C dL_law_2175 (tgt := 2179) (by decide) ?_
        refine pb_lcmpE C (x := lZ 1) dL_law_2179 ?_
        refine pb_if_eq C dL_law_2180 (x := 0) (tgt := 2185) (by decide) (by omega) (fun c2180_ => ?_) (fun c2180_ => ?_)
        · refine pb_goto C dL_law_2185 (tgt := 3538) (by decide) ?_
          exact pb_V.mono (by omega) (by omega) (kk H3 S9 ls hG hX hLI (lv_sub hl [2, 3, 4, 5, 6, 7] rfl))
        · exact absurd c2180_ (by decide)
  · exact absurd rfl c2156_

set_option maxHeartbeats 1000000 in
theorem blk_left {w : pb_W} {p : Program} {l : Launch} {e : Env} {s : State} {m_ : MethodId} {below : List Frame} {meth : Method} {c : Code} {Q : State → Prop} {b0 L : Nat} {xs : Nat → Int32} (C : pb_C w p s m_ meth c #[.ref b0] cL_law 9 RX0 meth.name ret) (hN : pb_Nc s) {H : Heap} (hG : pb_G w s H) (hX : va_X b0 L xs s H) (hb0 : b0 < w.2.2.2) (i : Nat) (hi : i + 6 ≤ L) (hL : L ≤ 144) (bO sl o oL oD : Nat) (S : mS) (hLI : LWI w H bO sl o oL oD S)  (hst : StepI w l yX0_left cX0_left 4 [(0, 9, 12, 13), (0, 9, 15, 64)] yX3_left cX3_left 3 .int  [.ref bO, .int (iZ (xz xs (i + 1))), .ref oL] [.ref o, .int (iZ (xz xs (i + 1)))] H bO sl o oL oD) (bc bs : Nat) (ls : Array Slot) (hl : lv_has ls 9 [(5, .int (iZ ((i : Nat) : Int))), (0, .ref b0), (1, .ref bO), (2, .ref o), (3, .ref oL), (4, .ref oD)]) (kk : ∀ (H3 : Heap) (S3 : mS) (ls : Array Slot), pb_G w s H3 → va_X b0 L xs s H3 → LWI w H3 bO sl o oL oD S3 → lv_has ls 9 [(5, .int (iZ ((i : Nat) : Int))), (0, .ref b0), (1, .ref bO), (2, .ref o), (3, .ref oL), (4, .ref oD)] → pb_V w.2.2.2 p l e room_1 s m_ #[.ref b0] below meth c H3 bc bs Q (F0 m_ 3538 ls [])) : pb_V w.2.2.2 p l e room_1 s m_ #[.ref b0] below meth c H (bc + 49000) (bs + 228000) Q (F0 m_ 2188 ls []) := by
  obtain ⟨mc, ms, dd, postW, postX, hmc, hms, hdd, hW, h2, h3⟩ := hst
  refine pb_aload_n C dL_law_2188 rfl (lv_at hl 2 rfl) ?_
  refine pb_aload_n C dL_law_2189 rfl (lv_at hl 1 rfl) ?_
  refine pb_iload C dL_law_2190 (lv_at hl 0 rfl) ?_
  refine pb_ic C dL_law_2192 ?_
  refine pb_iadd C dL_law_2193 ?_
  refine pb_sldN C hX (i := (i + 1)) (by omega) dL_law_2194 ?_
  refine pb_aload_n C dL_law_2195 rfl (lv_at hl 4 rfl) ?_
  refine pb_go_i (bc' := bc + 49000 - mc) (bs' := bs + 228000 - ms) (pb_runSW (rest := []) C hG hN hW (lw_SW q1346 q1347 q50 q1348) hdX0_left rfl hl.1 rfl (Nat.le_of_ble_eq_true rfl) ⟨(Nat.le_of_ble_eq_true rfl), (Nat.le_of_ble_eq_true rfl)⟩ dL_law_2196) (by omega) (by omega) (fun k_ H2 hp2 => ?_)
  obtain ⟨f2, hkr, ⟨fsO, hOo⟩, hM3⟩ := h2 _ _ hp2
  have hG := hG.kept f2
  have hX := hX.kept (f2.2 _ (by have := hX.lt; omega) hb0)
  refine pb_istore C dL_law_2199 hl (by decide) rfl fun ls hl => ?_
  have hl : lv_has ls 9 [(6, .int (iZ (k_))), (5, .int (iZ (((i : Nat) : Int)))), (0, .ref (b0)), (1, .ref (bO)), (2, .ref (o)), (3, .ref (oL)), (4, .ref (oD))] := hl
  refine pb_aload_n C dL_law_2201 rfl (lv_at hl 4 rfl) ?_
  refine pb_aload_n C dL_law_2202 rfl (lv_at hl 2 rfl) ?_
  refine pb_iload C dL_law_2203 (lv_at hl 1 rfl) ?_
  refine pb_ic C dL_law_2205 ?_
  refine pb_iadd C dL_law_2206 ?_
  refine pb_sldN C hX (i := (i + 1)) (by omega) dL_law_2207 ?_
  refine pb_go_i (bc' := (bc + 49000 - mc)) (bs' := (bs + 228000 - ms)) (pb_runV (rest := []) C hG (hM3) hOo (ci := 2) rfl (lw_V q1993 q1994 q1995 q60 q1996) ⟨rfl, hdX3_left⟩ rfl hl.1 rfl (Nat.le_of_ble_eq_true rfl) ⟨show dd + 1 ≤ 27 from by omega, show 8 + (3 + 11) + 64 * dd ≤ 11162 from by omega⟩ dL_law_2208) (by omega) (by omega) (fun z_ H3 hp_ => ?_)
  obtain ⟨f3, S9, hMW9, hk9, hv9, hb9, hLI⟩ := h3 _ _ _ _ hp2 hp_
  have hG := hG.kept f3
  have hX := hX.kept (f3.2 _ (by have := hX.lt; omega) hb0)
  obtain ⟨fsP, hOp⟩ := hMW9.o
  refine pb_istore C dL_law_2211 hl (by decide) rfl fun ls hl => ?_
  have hl : lv_has ls 9 [(7, .int (iZ (z_))), (6, .int (iZ (k_))), (5, .int (iZ (((i : Nat) : Int)))), (0, .ref (b0)), (1, .ref (bO)), (2, .ref (o)), (3, .ref (oL)), (4, .ref (oD))] := hl
  refine pb_aload_n C dL_law_2213 rfl (lv_at hl 5 rfl) ?_
  refine pb_go_x (bc' := (bc + 49000 - mc)) (bs' := (bs + 228000 - ms)) (pb_runV (rest := []) C hG (met_X3_thrown l o S9 hMW9) hOp (ci := 2) rfl (lw_V q1786 q1787 q1788 q60 q1789) ⟨rfl, hdX3_thrown⟩ rfl hl.1 rfl (Nat.le_of_ble_eq_true rfl) ⟨(Nat.le_of_ble_eq_true rfl), (Nat.le_of_ble_eq_true rfl)⟩ dL_law_2214) (by omega) (by omega) ?_
  refine pb_eq (g2 := F0 m_ 2217 ls [.int (iZ (k_))]) (congrArg (fun z9 => F0 m_ 2217 ls [.int (iZ z9)]) (show (S9.1 0) = k_ from hk9)) ?_
  refine pb_iload C dL_law_2217 (lv_at hl 1 rfl) ?_
  refine pb_icmp_eq C dL_law_2219 (x := k_) (y := k_) (tgt := 2224) (by decide) (by omega) (by omega) (fun c2219_ => ?_) (fun c2219_ => ?_)
  · refine pb_iload C dL_law_2224 (lv_at hl 1 rfl) ?_
    refine pb_if_ne C dL_law_2226 (x := k_) (tgt := 2241) (by decide) (by omega) (fun c2226_ => ?_) (fun c2226_ => ?_)
    · refine pb_goto C dL_law_2241 (tgt := 3538) (by decide) ?_
      exact pb_V.mono (by omega) (by omega) (kk H3 S9 ls hG hX hLI (lv_sub hl [2, 3, 4, 5, 6, 7] rfl))
    · obtain ⟨hzr, g9, hA9⟩ := hv9 c2226_
      refine pb_aload_n C dL_law_2229 rfl (lv_at hl 6 rfl) ?_
      refine pb_ic C dL_law_2230 ?_
      refine pb_lald C hA9.b (i := 0) (v := .long (lZ (z_))) (by omega) (if_pos rfl) dL_law_2231 ?_
      refine pb_iload C dL_law_2232 (lv_at hl 0 rfl) ?_
      refine pb_i2l C dL_law_2234 (x := z_) (by omega) ?_
      refine pb_lcmpE C (x := lZ z_) dL_law_2235 ?_
      refine pb_if_eq C dL_law_2236 (x := 0) (tgt := 2241) (by decide) (by omega) (fun c2236_ => ?_) (fun c2236_ => ?_)
      · refine pb_goto C dL_law_2241 (tgt := 3538) (by decide) ?_
        exact pb_V.mono (by omega) (by omega) (kk H3 S9 ls hG hX hLI (lv_sub hl [2, 3, 4, 5, 6, 7] rfl))
      · exact absurd c2236_ (by decide)
  · exact absurd rfl c2219_

set_option maxHeartbeats 1000000 in
theorem blk_right {w : pb_W} {p : Program} {l : Launch} {e : Env} {s : State} {m_ : MethodId} {below : List Frame} {meth : Method} {c : Code} {Q : State → Prop} {b0 L : Nat} {xs : Nat → Int32} (C : pb_C w p s m_ meth c #[.ref b0] cL_law 9 RX0 meth.name ret) (hN : pb_Nc s) {H : Heap} (hG : pb_G w s H) (hX : va_X b0 L xs s H) (hb0 : b0 < w.2.2.2) (i : Nat) (hi : i + 6 ≤ L) (hL : L ≤ 144) (bO sl o oL oD : Nat) (S : mS) (hLI : LWI w H bO sl o oL oD S)  (hst : StepI w l yX0_right cX0_right 4 [(0, 9, 12, 13), (0, 9, 15, 64)] yX3_right cX3_right 3 .int  [.ref bO, .int (iZ (xz xs (i + 1))), .ref oL] [.ref o, .int (iZ (xz xs (i + 1)))] H bO sl o oL oD) (bc bs : Nat) (ls : Array Slot) (hl : lv_has ls 9 [(5, .int (iZ ((i : Nat) : Int))), (0, .ref b0), (1, .ref bO), (2, .ref o), (3, .ref oL), (4, .ref oD)]) (kk : ∀ (H3 : Heap) (S3 : mS) (ls : Array Slot), pb_G w s H3 → va_X b0 L xs s H3 → LWI w H3 bO sl o oL oD S3 → lv_has ls 9 [(5, .int (iZ ((i : Nat) : Int))), (0, .ref b0), (1, .ref bO), (2, .ref o), (3, .ref oL), (4, .ref oD)] → pb_V w.2.2.2 p l e room_1 s m_ #[.ref b0] below meth c H3 bc bs Q (F0 m_ 3538 ls [])) : pb_V w.2.2.2 p l e room_1 s m_ #[.ref b0] below meth c H (bc + 49000) (bs + 228000) Q (F0 m_ 2244 ls []) := by
  obtain ⟨mc, ms, dd, postW, postX, hmc, hms, hdd, hW, h2, h3⟩ := hst
  refine pb_aload_n C dL_law_2244 rfl (lv_at hl 2 rfl) ?_
  refine pb_aload_n C dL_law_2245 rfl (lv_at hl 1 rfl) ?_
  refine pb_iload C dL_law_2246 (lv_at hl 0 rfl) ?_
  refine pb_ic C dL_law_2248 ?_
  refine pb_iadd C dL_law_2249 ?_
  refine pb_sldN C hX (i := (i + 1)) (by omega) dL_law_2250 ?_
  refine pb_aload_n C dL_law_2251 rfl (lv_at hl 4 rfl) ?_
  refine pb_go_i (bc' := bc + 49000 - mc) (bs' := bs + 228000 - ms) (pb_runSW (rest := []) C hG hN hW (lw_SW q1362 q1363 q50 q1364) hdX0_right rfl hl.1 rfl (Nat.le_of_ble_eq_true rfl) ⟨(Nat.le_of_ble_eq_true rfl), (Nat.le_of_ble_eq_true rfl)⟩ dL_law_2252) (by omega) (by omega) (fun k_ H2 hp2 => ?_)
  obtain ⟨f2, hkr, ⟨fsO, hOo⟩, hM3⟩ := h2 _ _ hp2
  have hG := hG.kept f2
  have hX := hX.kept (f2.2 _ (by have := hX.lt; omega) hb0)
  refine pb_istore C dL_law_2255 hl (by decide) rfl fun ls hl => ?_
  have hl : lv_has ls 9 [(6, .int (iZ (k_))), (5, .int (iZ (((i : Nat) : Int)))), (0, .ref (b0)), (1, .ref (bO)), (2, .ref (o)), (3, .ref (oL)), (4, .ref (oD))] := hl
  refine pb_aload_n C dL_law_2257 rfl (lv_at hl 4 rfl) ?_
  refine pb_aload_n C dL_law_2258 rfl (lv_at hl 2 rfl) ?_
  refine pb_iload C dL_law_2259 (lv_at hl 1 rfl) ?_
  refine pb_ic C dL_law_2261 ?_
  refine pb_iadd C dL_law_2262 ?_
  refine pb_sldN C hX (i := (i + 1)) (by omega) dL_law_2263 ?_
  refine pb_go_i (bc' := (bc + 49000 - mc)) (bs' := (bs + 228000 - ms)) (pb_runV (rest := []) C hG (hM3) hOo (ci := 2) rfl (lw_V q2005 q2006 q2007 q60 q2008) ⟨rfl, hdX3_right⟩ rfl hl.1 rfl (Nat.le_of_ble_eq_true rfl) ⟨show dd + 1 ≤ 27 from by omega, show 8 + (3 + 11) + 64 * dd ≤ 11162 from by omega⟩ dL_law_2264) (by omega) (by omega) (fun z_ H3 hp_ => ?_)
  obtain ⟨f3, S9, hMW9, hk9, hv9, hb9, hLI⟩ := h3 _ _ _ _ hp2 hp_
  have hG := hG.kept f3
  have hX := hX.kept (f3.2 _ (by have := hX.lt; omega) hb0)
  obtain ⟨fsP, hOp⟩ := hMW9.o
  refine pb_istore C dL_law_2267 hl (by decide) rfl fun ls hl => ?_
  have hl : lv_has ls 9 [(7, .int (iZ (z_))), (6, .int (iZ (k_))), (5, .int (iZ (((i : Nat) : Int)))), (0, .ref (b0)), (1, .ref (bO)), (2, .ref (o)), (3, .ref (oL)), (4, .ref (oD))] := hl
  refine pb_aload_n C dL_law_2269 rfl (lv_at hl 5 rfl) ?_
  refine pb_go_x (bc' := (bc + 49000 - mc)) (bs' := (bs + 228000 - ms)) (pb_runV (rest := []) C hG (met_X3_thrown l o S9 hMW9) hOp (ci := 2) rfl (lw_V q1786 q1787 q1788 q60 q1789) ⟨rfl, hdX3_thrown⟩ rfl hl.1 rfl (Nat.le_of_ble_eq_true rfl) ⟨(Nat.le_of_ble_eq_true rfl), (Nat.le_of_ble_eq_true rfl)⟩ dL_law_2270) (by omega) (by omega) ?_
  refine pb_eq (g2 := F0 m_ 2273 ls [.int (iZ (k_))]) (congrArg (fun z9 => F0 m_ 2273 ls [.int (iZ z9)]) (show (S9.1 0) = k_ from hk9)) ?_
  refine pb_iload C dL_law_2273 (lv_at hl 1 rfl) ?_
  refine pb_icmp_eq C dL_law_2275 (x := k_) (y := k_) (tgt := 2280) (by decide) (by omega) (by omega) (fun c2275_ => ?_) (fun c2275_ => ?_)
  · refine pb_iload C dL_law_2280 (lv_at hl 1 rfl) ?_
    refine pb_if_ne C dL_law_2282 (x := k_) (tgt := 2297) (by decide) (by omega) (fun c2282_ => ?_) (fun c2282_ => ?_)
    · refine pb_goto C dL_law_2297 (tgt := 3538) (by decide) ?_
      exact pb_V.mono (by omega) (by omega) (kk H3 S9 ls hG hX hLI (lv_sub hl [2, 3, 4, 5, 6, 7] rfl))
    · obtain ⟨hzr, g9, hA9⟩ := hv9 c2282_
      refine pb_aload_n C dL_law_2285 rfl (lv_at hl 6 rfl) ?_
      refine pb_ic C dL_law_2286 ?_
      refine pb_lald C hA9.b (i := 0) (v := .long (lZ (z_))) (by omega) (if_pos rfl) dL_law_2287 ?_
      refine pb_iload C dL_law_2288 (lv_at hl 0 rfl) ?_
      refine pb_i2l C dL_law_2290 (x := z_) (by omega) ?_
      refine pb_lcmpE C (x := lZ z_) dL_law_2291 ?_
      refine pb_if_eq C dL_law_2292 (x := 0) (tgt := 2297) (by decide) (by omega) (fun c2292_ => ?_) (fun c2292_ => ?_)
      · refine pb_goto C dL_law_2297 (tgt := 3538) (by decide) ?_
        exact pb_V.mono (by omega) (by omega) (kk H3 S9 ls hG hX hLI (lv_sub hl [2, 3, 4, 5, 6, 7] rfl))
      · exact absurd c2292_ (by decide)
  · exact absurd rfl c2275_

set_option maxHeartbeats 1000000 in
theorem blk_bottom {w : pb_W} {p : Program} {l : Launch} {e : Env} {s : State} {m_ : MethodId} {below : List Frame} {meth : Method} {c : Code} {Q : State → Prop} {b0 L : Nat} {xs : Nat → Int32} (C : pb_C w p s m_ meth c #[.ref b0] cL_law 9 RX0 meth.name ret) (hN : pb_Nc s) {H : Heap} (hG : pb_G w s H) (hX : va_X b0 L xs s H) (hb0 : b0 < w.2.2.2) (i : Nat) (hi : i + 6 ≤ L) (hL : L ≤ 144) (bO sl o oL oD : Nat) (S : mS) (hLI : LWI w H bO sl o oL oD S)  (hst : StepI w l yX0_bottom cX0_bottom 4 [(0, 9, 12, 13), (0, 9, 15, 64)] yX3_bottom cX3_bottom 3 .int  [.ref bO, .int (iZ (xz xs (i + 1))), .ref oL] [.ref o, .int (iZ (xz xs (i + 1)))] H bO sl o oL oD) (bc bs : Nat) (ls : Array Slot) (hl : lv_has ls 9 [(5, .int (iZ ((i : Nat) : Int))), (0, .ref b0), (1, .ref bO), (2, .ref o), (3, .ref oL), (4, .ref oD)]) (kk : ∀ (H3 : Heap) (S3 : mS) (ls : Array Slot), pb_G w s H3 → va_X b0 L xs s H3 → LWI w H3 bO sl o oL oD S3 → lv_has ls 9 [(5, .int (iZ ((i : Nat) : Int))), (0, .ref b0), (1, .ref bO), (2, .ref o), (3, .ref oL), (4, .ref oD)] → pb_V w.2.2.2 p l e room_1 s m_ #[.ref b0] below meth c H3 bc bs Q (F0 m_ 3538 ls [])) : pb_V w.2.2.2 p l e room_1 s m_ #[.ref b0] below meth c H (bc + 49000) (bs + 228000) Q (F0 m_ 2300 ls []) := by
  obtain ⟨mc, ms, dd, postW, postX, hmc, hms, hdd, hW, h2, h3⟩ := hst
  refine pb_aload_n C dL_law_2300 rfl (lv_at hl 2 rfl) ?_
  refine pb_aload_n C dL_law_2301 rfl (lv_at hl 1 rfl) ?_
  refine pb_iload C dL_law_2302 (lv_at hl 0 rfl) ?_
  refine pb_ic C dL_law_2304 ?_
  refine pb_iadd C dL_law_2305 ?_
  refine pb_sldN C hX (i := (i + 1)) (by omega) dL_law_2306 ?_
  refine pb_aload_n C dL_law_2307 rfl (lv_at hl 4 rfl) ?_
  refine pb_go_i (bc' := bc + 49000 - mc) (bs' := bs + 228000 - ms) (pb_runSW (rest := []) C hG hN hW (lw_SW q1374 q1375 q50 q1376) hdX0_bottom rfl hl.1 rfl (Nat.le_of_ble_eq_true rfl) ⟨(Nat.le_of_ble_eq_true rfl), (Nat.le_of_ble_eq_true rfl)⟩ dL_law_2308) (by omega) (by omega) (fun k_ H2 hp2 => ?_)
  obtain ⟨f2, hkr, ⟨fsO, hOo⟩, hM3⟩ := h2 _ _ hp2
  have hG := hG.kept f2
  have hX := hX.kept (f2.2 _ (by have := hX.lt; omega) hb0)
  refine pb_istore C dL_law_2311 hl (by decide) rfl fun ls hl => ?_
  have hl : lv_has ls 9 [(6, .int (iZ (k_))), (5, .int (iZ (((i : Nat) : Int)))), (0, .ref (b0)), (1, .ref (bO)), (2, .ref (o)), (3, .ref (oL)), (4, .ref (oD))] := hl
  refine pb_aload_n C dL_law_2313 rfl (lv_at hl 4 rfl) ?_
  refine pb_aload_n C dL_law_2314 rfl (lv_at hl 2 rfl) ?_
  refine pb_iload C dL_law_2315 (lv_at hl 1 rfl) ?_
  refine pb_ic C dL_law_2317 ?_
  refine pb_iadd C dL_law_2318 ?_
  refine pb_sldN C hX (i := (i + 1)) (by omega) dL_law_2319 ?_
  refine pb_go_i (bc' := (bc + 49000 - mc)) (bs' := (bs + 228000 - ms)) (pb_runV (rest := []) C hG (hM3) hOo (ci := 2) rfl (lw_V q2009 q2010 q2011 q60 q2012) ⟨rfl, hdX3_bottom⟩ rfl hl.1 rfl (Nat.le_of_ble_eq_true rfl) ⟨show dd + 1 ≤ 27 from by omega, show 8 + (3 + 11) + 64 * dd ≤ 11162 from by omega⟩ dL_law_2320) (by omega) (by omega) (fun z_ H3 hp_ => ?_)
  obtain ⟨f3, S9, hMW9, hk9, hv9, hb9, hLI⟩ := h3 _ _ _ _ hp2 hp_
  have hG := hG.kept f3
  have hX := hX.kept (f3.2 _ (by have := hX.lt; omega) hb0)
  obtain ⟨fsP, hOp⟩ := hMW9.o
  refine pb_istore C dL_law_2323 hl (by decide) rfl fun ls hl => ?_
  have hl : lv_has ls 9 [(7, .int (iZ (z_))), (6, .int (iZ (k_))), (5, .int (iZ (((i : Nat) : Int)))), (0, .ref (b0)), (1, .ref (bO)), (2, .ref (o)), (3, .ref (oL)), (4, .ref (oD))] := hl
  refine pb_aload_n C dL_law_2325 rfl (lv_at hl 5 rfl) ?_
  refine pb_go_x (bc' := (bc + 49000 - mc)) (bs' := (bs + 228000 - ms)) (pb_runV (rest := []) C hG (met_X3_thrown l o S9 hMW9) hOp (ci := 2) rfl (lw_V q1786 q1787 q1788 q60 q1789) ⟨rfl, hdX3_thrown⟩ rfl hl.1 rfl (Nat.le_of_ble_eq_true rfl) ⟨(Nat.le_of_ble_eq_true rfl), (Nat.le_of_ble_eq_true rfl)⟩ dL_law_2326) (by omega) (by omega) ?_
  refine pb_eq (g2 := F0 m_ 2329 ls [.int (iZ (k_))]) (congrArg (fun z9 => F0 m_ 2329 ls [.int (iZ z9)]) (show (S9.1 0) = k_ from hk9)) ?_
  refine pb_iload C dL_law_2329 (lv_at hl 1 rfl) ?_
  refine pb_icmp_eq C dL_law_2331 (x := k_) (y := k_) (tgt := 2336) (by decide) (by omega) (by omega) (fun c2331_ => ?_) (fun c2331_ => ?_)
  · refine pb_iload C dL_law_2336 (lv_at hl 1 rfl) ?_
    refine pb_if_ne C dL_law_2338 (x := k_) (tgt := 2353) (by decide) (by omega) (fun c2338_ => ?_) (fun c2338_ => ?_)
    · refine pb_goto C dL_law_2353 (tgt := 3538) (by decide) ?_
      exact pb_V.mono (by omega) (by omega) (kk H3 S9 ls hG hX hLI (lv_sub hl [2, 3, 4, 5, 6, 7] rfl))
    · obtain ⟨hzr, g9, hA9⟩ := hv9 c2338_
      refine pb_aload_n C dL_law_2341 rfl (lv_at hl 6 rfl) ?_
      refine pb_ic C dL_law_2342 ?_
      refine pb_lald C hA9.b (i := 0) (v := .long (lZ (z_))) (by omega) (if_pos rfl) dL_law_2343 ?_
      refine pb_iload C dL_law_2344 (lv_at hl 0 rfl) ?_
      refine pb_i2l C dL_law_2346 (x := z_) (by omega) ?_
      refine pb_lcmpE C (x := lZ z_) dL_law_2347 ?_
      refine pb_if_eq C dL_law_2348 (x := 0) (tgt := 2353) (by decide) (by omega) (fun c2348_ => ?_) (fun c2348_ => ?_)
      · refine pb_goto C dL_law_2353 (tgt := 3538) (by decide) ?_
        exact pb_V.mono (by omega) (by omega) (kk H3 S9 ls hG hX hLI (lv_sub hl [2, 3, 4, 5, 6, 7] rfl))
      · exact absurd c2348_ (by decide)
  · exact absurd rfl c2331_

set_option maxHeartbeats 1000000 in
theorem blk_top {w : pb_W} {p : Program} {l : Launch} {e : Env} {s : State} {m_ : MethodId} {below : List Frame} {meth : Method} {c : Code} {Q : State → Prop} {b0 L : Nat} {xs : Nat → Int32} (C : pb_C w p s m_ meth c #[.ref b0] cL_law 9 RX0 meth.name ret) (hN : pb_Nc s) {H : Heap} (hG : pb_G w s H) (hX : va_X b0 L xs s H) (hb0 : b0 < w.2.2.2) (i : Nat) (hi : i + 6 ≤ L) (hL : L ≤ 144) (bO sl o oL oD : Nat) (S : mS) (hLI : LWI w H bO sl o oL oD S)  (hst : StepI w l yX0_top cX0_top 4 [(0, 9, 12, 13), (0, 9, 15, 64)] yX3_top cX3_top 3 .int  [.ref bO, .int (iZ (xz xs (i + 1))), .ref oL] [.ref o, .int (iZ (xz xs (i + 1)))] H bO sl o oL oD) (bc bs : Nat) (ls : Array Slot) (hl : lv_has ls 9 [(5, .int (iZ ((i : Nat) : Int))), (0, .ref b0), (1, .ref bO), (2, .ref o), (3, .ref oL), (4, .ref oD)]) (kk : ∀ (H3 : Heap) (S3 : mS) (ls : Array Slot), pb_G w s H3 → va_X b0 L xs s H3 → LWI w H3 bO sl o oL oD S3 → lv_has ls 9 [(5, .int (iZ ((i : Nat) : Int))), (0, .ref b0), (1, .ref bO), (2, .ref o), (3, .ref oL), (4, .ref oD)] → pb_V w.2.2.2 p l e room_1 s m_ #[.ref b0] below meth c H3 bc bs Q (F0 m_ 3538 ls [])) : pb_V w.2.2.2 p l e room_1 s m_ #[.ref b0] below meth c H (bc + 49000) (bs + 228000) Q (F0 m_ 2356 ls []) := by
  obtain ⟨mc, ms, dd, postW, postX, hmc, hms, hdd, hW, h2, h3⟩ := hst
  refine pb_aload_n C dL_law_2356 rfl (lv_at hl 2 rfl) ?_
  refine pb_aload_n C dL_law_2357 rfl (lv_at hl 1 rfl) ?_
  refine pb_iload C dL_law_2358 (lv_at hl 0 rfl) ?_
  refine pb_ic C dL_law_2360 ?_
  refine pb_iadd C dL_law_2361 ?_
  refine pb_sldN C hX (i := (i + 1)) (by omega) dL_law_2362 ?_
  refine pb_aload_n C dL_law_2363 rfl (lv_at hl 4 rfl) ?_
  refine pb_go_i (bc' := bc + 49000 - mc) (bs' := bs + 228000 - ms) (pb_runSW (rest := []) C hG hN hW (lw_SW q1385 q1386 q50 q1387) hdX0_top rfl hl.1 rfl (Nat.le_of_ble_eq_true rfl) ⟨(Nat.le_of_ble_eq_true rfl), (Nat.le_of_ble_eq_true rfl)⟩ dL_law_2364) (by omega) (by omega) (fun k_ H2 hp2 => ?_)
  obtain ⟨f2, hkr, ⟨fsO, hOo⟩, hM3⟩ := h2 _ _ hp2
  have hG := hG.kept f2
  have hX := hX.kept (f2.2 _ (by have := hX.lt; omega) hb0)
  refine pb_istore C dL_law_2367 hl (by decide) rfl fun ls hl => ?_
  have hl : lv_has ls 9 [(6, .int (iZ (k_))), (5, .int (iZ (((i : Nat) : Int)))), (0, .ref (b0)), (1, .ref (bO)), (2, .ref (o)), (3, .ref (oL)), (4, .ref (oD))] := hl
  refine pb_aload_n C dL_law_2369 rfl (lv_at hl 4 rfl) ?_
  refine pb_aload_n C dL_law_2370 rfl (lv_at hl 2 rfl) ?_
  refine pb_iload C dL_law_2371 (lv_at hl 1 rfl) ?_
  refine pb_ic C dL_law_2373 ?_
  refine pb_iadd C dL_law_2374 ?_
  refine pb_sldN C hX (i := (i + 1)) (by omega) dL_law_2375 ?_
  refine pb_go_i (bc' := (bc + 49000 - mc)) (bs' := (bs + 228000 - ms)) (pb_runV (rest := []) C hG (hM3) hOo (ci := 2) rfl (lw_V q2013 q2014 q2015 q60 q2016) ⟨rfl, hdX3_top⟩ rfl hl.1 rfl (Nat.le_of_ble_eq_true rfl) ⟨show dd + 1 ≤ 27 from by omega, show 8 + (3 + 11) + 64 * dd ≤ 11162 from by omega⟩ dL_law_2376) (by omega) (by omega) (fun z_ H3 hp_ => ?_)
  obtain ⟨f3, S9, hMW9, hk9, hv9, hb9, hLI⟩ := h3 _ _ _ _ hp2 hp_
  have hG := hG.kept f3
  have hX := hX.kept (f3.2 _ (by have := hX.lt; omega) hb0)
  obtain ⟨fsP, hOp⟩ := hMW9.o
  refine pb_istore C dL_law_2379 hl (by decide) rfl fun ls hl => ?_
  have hl : lv_has ls 9 [(7, .int (iZ (z_))), (6, .int (iZ (k_))), (5, .int (iZ (((i : Nat) : Int)))), (0, .ref (b0)), (1, .ref (bO)), (2, .ref (o)), (3, .ref (oL)), (4, .ref (oD))] := hl
  refine pb_aload_n C dL_law_2381 rfl (lv_at hl 5 rfl) ?_
  refine pb_go_x (bc' := (bc + 49000 - mc)) (bs' := (bs + 228000 - ms)) (pb_runV (rest := []) C hG (met_X3_thrown l o S9 hMW9) hOp (ci := 2) rfl (lw_V q1786 q1787 q1788 q60 q1789) ⟨rfl, hdX3_thrown⟩ rfl hl.1 rfl (Nat.le_of_ble_eq_true rfl) ⟨(Nat.le_of_ble_eq_true rfl), (Nat.le_of_ble_eq_true rfl)⟩ dL_law_2382) (by omega) (by omega) ?_
  refine pb_eq (g2 := F0 m_ 2385 ls [.int (iZ (k_))]) (congrArg (fun z9 => F0 m_ 2385 ls [.int (iZ z9)]) (show (S9.1 0) = k_ from hk9)) ?_
  refine pb_iload C dL_law_2385 (lv_at hl 1 rfl) ?_
  refine pb_icmp_eq C dL_law_2387 (x := k_) (y := k_) (tgt := 2392) (by decide) (by omega) (by omega) (fun c2387_ => ?_) (fun c2387_ => ?_)
  · refine pb_iload C dL_law_2392 (lv_at hl 1 rfl) ?_
    refine pb_if_ne C dL_law_2394 (x := k_) (tgt := 2409) (by decide) (by omega) (fun c2394_ => ?_) (fun c2394_ => ?_)
    · refine pb_goto C dL_law_2409 (tgt := 3538) (by decide) ?_
      exact pb_V.mono (by omega) (by omega) (kk H3 S9 ls hG hX hLI (lv_sub hl [2, 3, 4, 5, 6, 7] rfl))
    · obtain ⟨hzr, g9, hA9⟩ := hv9 c2394_
      refine pb_aload_n C dL_law_2397 rfl (lv_at hl 6 rfl) ?_
      refine pb_ic C dL_law_2398 ?_
      refine pb_lald C hA9.b (i := 0) (v := .long (lZ (z_))) (by omega) (if_pos rfl) dL_law_2399 ?_
      refine pb_iload C dL_law_2400 (lv_at hl 0 rfl) ?_
      refine pb_i2l C dL_law_2402 (x := z_) (by omega) ?_
      refine pb_lcmpE C (x := lZ z_) dL_law_2403 ?_
      refine pb_if_eq C dL_law_2404 (x := 0) (tgt := 2409) (by decide) (by omega) (fun c2404_ => ?_) (fun c2404_ => ?_)
      · refine pb_goto C dL_law_2409 (tgt := 3538) (by decide) ?_
        exact pb_V.mono (by omega) (by omega) (kk H3 S9 ls hG hX hLI (lv_sub hl [2, 3, 4, 5, 6, 7] rfl))
      · exact absurd c2404_ (by decide)
  · exact absurd rfl c2387_

set_option maxHeartbeats 1000000 in
theorem blk_largestRectangle {w : pb_W} {p : Program} {l : Launch} {e : Env} {s : State} {m_ : MethodId} {below : List Frame} {meth : Method} {c : Code} {Q : State → Prop} {b0 L : Nat} {xs : Nat → Int32} (C : pb_C w p s m_ meth c #[.ref b0] cL_law 9 RX0 meth.name ret) (hN : pb_Nc s) {H : Heap} (hG : pb_G w s H) (hX : va_X b0 L xs s H) (hb0 : b0 < w.2.2.2) (i : Nat) (hi : i + 6 ≤ L) (hL : L ≤ 144) (bO sl o oL oD : Nat) (S : mS) (hLI : LWI w H bO sl o oL oD S)  (hst : StepI w l yX0_largestRectangle cX0_largestRectangle 4 [(0, 9, 12, 13)] yX3_largestRectangle cX3_largestRectangle 7 .int  [.ref bO, .int (iZ (xz xs (i + 1))), .ref oL] [.ref o, .int (iZ (xz xs (i + 1)))] H bO sl o oL oD) (bc bs : Nat) (ls : Array Slot) (hl : lv_has ls 9 [(5, .int (iZ ((i : Nat) : Int))), (0, .ref b0), (1, .ref bO), (2, .ref o), (3, .ref oL), (4, .ref oD)]) (kk : ∀ (H3 : Heap) (S3 : mS) (ls : Array Slot), pb_G w s H3 → va_X b0 L xs s H3 → LWI w H3 bO sl o oL oD S3 → lv_has ls 9 [(5, .int (iZ ((i : Nat) : Int))), (0, .ref b0), (1, .ref bO), (2, .ref o), (3, .ref oL), (4, .ref oD)] → pb_V w.2.2.2 p l e room_1 s m_ #[.ref b0] below meth c H3 bc bs Q (F0 m_ 3538 ls [])) : pb_V w.2.2.2 p l e room_1 s m_ #[.ref b0] below meth c H (bc + 49000) (bs + 228000) Q (F0 m_ 2412 ls []) := by
  obtain ⟨mc, ms, dd, postW, postX, hmc, hms, hdd, hW, h2, h3⟩ := hst
  refine pb_aload_n C dL_law_2412 rfl (lv_at hl 2 rfl) ?_
  refine pb_aload_n C dL_law_2413 rfl (lv_at hl 1 rfl) ?_
  refine pb_iload C dL_law_2414 (lv_at hl 0 rfl) ?_
  refine pb_ic C dL_law_2416 ?_
  refine pb_iadd C dL_law_2417 ?_
  refine pb_sldN C hX (i := (i + 1)) (by omega) dL_law_2418 ?_
  refine pb_aload_n C dL_law_2419 rfl (lv_at hl 4 rfl) ?_
  refine pb_go_i (bc' := bc + 49000 - mc) (bs' := bs + 228000 - ms) (pb_runSW (rest := []) C hG hN hW (lw_SW q1393 q1394 q50 q1395) hdX0_largestRectangle rfl hl.1 rfl (Nat.le_of_ble_eq_true rfl) ⟨(Nat.le_of_ble_eq_true rfl), (Nat.le_of_ble_eq_true rfl)⟩ dL_law_2420) (by omega) (by omega) (fun k_ H2 hp2 => ?_)
  obtain ⟨f2, hkr, ⟨fsO, hOo⟩, hM3⟩ := h2 _ _ hp2
  have hG := hG.kept f2
  have hX := hX.kept (f2.2 _ (by have := hX.lt; omega) hb0)
  refine pb_istore C dL_law_2423 hl (by decide) rfl fun ls hl => ?_
  have hl : lv_has ls 9 [(6, .int (iZ (k_))), (5, .int (iZ (((i : Nat) : Int)))), (0, .ref (b0)), (1, .ref (bO)), (2, .ref (o)), (3, .ref (oL)), (4, .ref (oD))] := hl
  refine pb_aload_n C dL_law_2425 rfl (lv_at hl 4 rfl) ?_
  refine pb_aload_n C dL_law_2426 rfl (lv_at hl 2 rfl) ?_
  refine pb_iload C dL_law_2427 (lv_at hl 1 rfl) ?_
  refine pb_ic C dL_law_2429 ?_
  refine pb_iadd C dL_law_2430 ?_
  refine pb_sldN C hX (i := (i + 1)) (by omega) dL_law_2431 ?_
  refine pb_go_i (bc' := (bc + 49000 - mc)) (bs' := (bs + 228000 - ms)) (pb_runV (rest := []) C hG (hM3) hOo (ci := 2) rfl (lw_V q2017 q2018 q2019 q60 q2020) ⟨rfl, hdX3_largestRectangle⟩ rfl hl.1 rfl (Nat.le_of_ble_eq_true rfl) ⟨show dd + 1 ≤ 27 from by omega, show 8 + (7 + 11) + 64 * dd ≤ 11162 from by omega⟩ dL_law_2432) (by omega) (by omega) (fun z_ H3 hp_ => ?_)
  obtain ⟨f3, S9, hMW9, hk9, hv9, hb9, hLI⟩ := h3 _ _ _ _ hp2 hp_
  have hG := hG.kept f3
  have hX := hX.kept (f3.2 _ (by have := hX.lt; omega) hb0)
  obtain ⟨fsP, hOp⟩ := hMW9.o
  refine pb_istore C dL_law_2435 hl (by decide) rfl fun ls hl => ?_
  have hl : lv_has ls 9 [(7, .int (iZ (z_))), (6, .int (iZ (k_))), (5, .int (iZ (((i : Nat) : Int)))), (0, .ref (b0)), (1, .ref (bO)), (2, .ref (o)), (3, .ref (oL)), (4, .ref (oD))] := hl
  refine pb_aload_n C dL_law_2437 rfl (lv_at hl 5 rfl) ?_
  refine pb_go_x (bc' := (bc + 49000 - mc)) (bs' := (bs + 228000 - ms)) (pb_runV (rest := []) C hG (met_X3_thrown l o S9 hMW9) hOp (ci := 2) rfl (lw_V q1786 q1787 q1788 q60 q1789) ⟨rfl, hdX3_thrown⟩ rfl hl.1 rfl (Nat.le_of_ble_eq_true rfl) ⟨(Nat.le_of_ble_eq_true rfl), (Nat.le_of_ble_eq_true rfl)⟩ dL_law_2438) (by omega) (by omega) ?_
  refine pb_eq (g2 := F0 m_ 2441 ls [.int (iZ (k_))]) (congrArg (fun z9 => F0 m_ 2441 ls [.int (iZ z9)]) (show (S9.1 0) = k_ from hk9)) ?_
  refine pb_iload C dL_law_2441 (lv_at hl 1 rfl) ?_
  refine pb_icmp_eq C dL_law_2443 (x := k_) (y := k_) (tgt := 2448) (by decide) (by omega) (by omega) (fun c2443_ => ?_) (fun c2443_ => ?_)
  · refine pb_iload C dL_law_2448 (lv_at hl 1 rfl) ?_
    refine pb_if_ne C dL_law_2450 (x := k_) (tgt := 2465) (by decide) (by omega) (fun c2450_ => ?_) (fun c2450_ => ?_)
    · refine pb_goto C dL_law_2465 (tgt := 3538) (by decide) ?_
      exact pb_V.mono (by omega) (by omega) (kk H3 S9 ls hG hX hLI (lv_sub hl [2, 3, 4, 5, 6, 7] rfl))
    · obtain ⟨hzr, g9, hA9⟩ := hv9 c2450_
      refine pb_aload_n C dL_law_2453 rfl (lv_at hl 6 rfl) ?_
      refine pb_ic C dL_law_2454 ?_
      refine pb_lald C hA9.b (i := 0) (v := .long (lZ (z_))) (by omega) (if_pos rfl) dL_law_2455 ?_
      refine pb_iload C dL_law_2456 (lv_at hl 0 rfl) ?_
      refine pb_i2l C dL_law_2458 (x := z_) (by omega) ?_
      refine pb_lcmpE C (x := lZ z_) dL_law_2459 ?_
      refine pb_if_eq C dL_law_2460 (x := 0) (tgt := 2465) (by decide) (by omega) (fun c2460_ => ?_) (fun c2460_ => ?_)
      · refine pb_goto C dL_law_2465 (tgt := 3538) (by decide) ?_
        exact pb_V.mono (by omega) (by omega) (kk H3 S9 ls hG hX hLI (lv_sub hl [2, 3, 4, 5, 6, 7] rfl))
      · exact absurd c2460_ (by decide)
  · exact absurd rfl c2443_

set_option maxHeartbeats 1000000 in
theorem blk_largestRectangleByCells {w : pb_W} {p : Program} {l : Launch} {e : Env} {s : State} {m_ : MethodId} {below : List Frame} {meth : Method} {c : Code} {Q : State → Prop} {b0 L : Nat} {xs : Nat → Int32} (C : pb_C w p s m_ meth c #[.ref b0] cL_law 9 RX0 meth.name ret) (hN : pb_Nc s) {H : Heap} (hG : pb_G w s H) (hX : va_X b0 L xs s H) (hb0 : b0 < w.2.2.2) (i : Nat) (hi : i + 6 ≤ L) (hL : L ≤ 144) (bO sl o oL oD : Nat) (S : mS) (hLI : LWI w H bO sl o oL oD S)  (hst : StepI w l yX0_largestRectangleByCells cX0_largestRectangleByCells 4 [(0, 9, 12, 13)] yX3_largestRectangleByCells cX3_largestRectangleByCells 2 .int  [.ref bO, .int (iZ (xz xs (i + 1))), .ref oL] [.ref o, .int (iZ (xz xs (i + 1)))] H bO sl o oL oD) (bc bs : Nat) (ls : Array Slot) (hl : lv_has ls 9 [(5, .int (iZ ((i : Nat) : Int))), (0, .ref b0), (1, .ref bO), (2, .ref o), (3, .ref oL), (4, .ref oD)]) (kk : ∀ (H3 : Heap) (S3 : mS) (ls : Array Slot), pb_G w s H3 → va_X b0 L xs s H3 → LWI w H3 bO sl o oL oD S3 → lv_has ls 9 [(5, .int (iZ ((i : Nat) : Int))), (0, .ref b0), (1, .ref bO), (2, .ref o), (3, .ref oL), (4, .ref oD)] → pb_V w.2.2.2 p l e room_1 s m_ #[.ref b0] below meth c H3 bc bs Q (F0 m_ 3538 ls [])) : pb_V w.2.2.2 p l e room_1 s m_ #[.ref b0] below meth c H (bc + 49000) (bs + 228000) Q (F0 m_ 2468 ls []) := by
  obtain ⟨mc, ms, dd, postW, postX, hmc, hms, hdd, hW, h2, h3⟩ := hst
  refine pb_aload_n C dL_law_2468 rfl (lv_at hl 2 rfl) ?_
  refine pb_aload_n C dL_law_2469 rfl (lv_at hl 1 rfl) ?_
  refine pb_iload C dL_law_2470 (lv_at hl 0 rfl) ?_
  refine pb_ic C dL_law_2472 ?_
  refine pb_iadd C dL_law_2473 ?_
  refine pb_sldN C hX (i := (i + 1)) (by omega) dL_law_2474 ?_
  refine pb_aload_n C dL_law_2475 rfl (lv_at hl 4 rfl) ?_
  refine pb_go_i (bc' := bc + 49000 - mc) (bs' := bs + 228000 - ms) (pb_runSW (rest := []) C hG hN hW (lw_SW q1435 q1436 q50 q1437) hdX0_largestRectangleByCells rfl hl.1 rfl (Nat.le_of_ble_eq_true rfl) ⟨(Nat.le_of_ble_eq_true rfl), (Nat.le_of_ble_eq_true rfl)⟩ dL_law_2476) (by omega) (by omega) (fun k_ H2 hp2 => ?_)
  obtain ⟨f2, hkr, ⟨fsO, hOo⟩, hM3⟩ := h2 _ _ hp2
  have hG := hG.kept f2
  have hX := hX.kept (f2.2 _ (by have := hX.lt; omega) hb0)
  refine pb_istore C dL_law_2479 hl (by decide) rfl fun ls hl => ?_
  have hl : lv_has ls 9 [(6, .int (iZ (k_))), (5, .int (iZ (((i : Nat) : Int)))), (0, .ref (b0)), (1, .ref (bO)), (2, .ref (o)), (3, .ref (oL)), (4, .ref (oD))] := hl
  refine pb_aload_n C dL_law_2481 rfl (lv_at hl 4 rfl) ?_
  refine pb_aload_n C dL_law_2482 rfl (lv_at hl 2 rfl) ?_
  refine pb_iload C dL_law_2483 (lv_at hl 1 rfl) ?_
  refine pb_ic C dL_law_2485 ?_
  refine pb_iadd C dL_law_2486 ?_
  refine pb_sldN C hX (i := (i + 1)) (by omega) dL_law_2487 ?_
  refine pb_go_i (bc' := (bc + 49000 - mc)) (bs' := (bs + 228000 - ms)) (pb_runV (rest := []) C hG (hM3) hOo (ci := 2) rfl (lw_V q2024 q2025 q2026 q60 q2027) ⟨rfl, hdX3_largestRectangleByCells⟩ rfl hl.1 rfl (Nat.le_of_ble_eq_true rfl) ⟨show dd + 1 ≤ 27 from by omega, show 8 + (2 + 11) + 64 * dd ≤ 11162 from by omega⟩ dL_law_2488) (by omega) (by omega) (fun z_ H3 hp_ => ?_)
  obtain ⟨f3, S9, hMW9, hk9, hv9, hb9, hLI⟩ := h3 _ _ _ _ hp2 hp_
  have hG := hG.kept f3
  have hX := hX.kept (f3.2 _ (by have := hX.lt; omega) hb0)
  obtain ⟨fsP, hOp⟩ := hMW9.o
  refine pb_istore C dL_law_2491 hl (by decide) rfl fun ls hl => ?_
  have hl : lv_has ls 9 [(7, .int (iZ (z_))), (6, .int (iZ (k_))), (5, .int (iZ (((i : Nat) : Int)))), (0, .ref (b0)), (1, .ref (bO)), (2, .ref (o)), (3, .ref (oL)), (4, .ref (oD))] := hl
  refine pb_aload_n C dL_law_2493 rfl (lv_at hl 5 rfl) ?_
  refine pb_go_x (bc' := (bc + 49000 - mc)) (bs' := (bs + 228000 - ms)) (pb_runV (rest := []) C hG (met_X3_thrown l o S9 hMW9) hOp (ci := 2) rfl (lw_V q1786 q1787 q1788 q60 q1789) ⟨rfl, hdX3_thrown⟩ rfl hl.1 rfl (Nat.le_of_ble_eq_true rfl) ⟨(Nat.le_of_ble_eq_true rfl), (Nat.le_of_ble_eq_true rfl)⟩ dL_law_2494) (by omega) (by omega) ?_
  refine pb_eq (g2 := F0 m_ 2497 ls [.int (iZ (k_))]) (congrArg (fun z9 => F0 m_ 2497 ls [.int (iZ z9)]) (show (S9.1 0) = k_ from hk9)) ?_
  refine pb_iload C dL_law_2497 (lv_at hl 1 rfl) ?_
  refine pb_icmp_eq C dL_law_2499 (x := k_) (y := k_) (tgt := 2504) (by decide) (by omega) (by omega) (fun c2499_ => ?_) (fun c2499_ => ?_)
  · refine pb_iload C dL_law_2504 (lv_at hl 1 rfl) ?_
    refine pb_if_ne C dL_law_2506 (x := k_) (tgt := 2521) (by decide) (by omega) (fun c2506_ => ?_) (fun c2506_ => ?_)
    · refine pb_goto C dL_law_2521 (tgt := 3538) (by decide) ?_
      exact pb_V.mono (by omega) (by omega) (kk H3 S9 ls hG hX hLI (lv_sub hl [2, 3, 4, 5, 6, 7] rfl))
    · obtain ⟨hzr, g9, hA9⟩ := hv9 c2506_
      refine pb_aload_n C dL_law_2509 rfl (lv_at hl 6 rfl) ?_
      refine pb_ic C dL_law_2510 ?_
      refine pb_lald C hA9.b (i := 0) (v := .long (lZ (z_))) (by omega) (if_pos rfl) dL_law_2511 ?_
      refine pb_iload C dL_law_2512 (lv_at hl 0 rfl) ?_
      refine pb_i2l C dL_law_2514 (x := z_) (by omega) ?_
      refine pb_lcmpE C (x := lZ z_) dL_law_2515 ?_
      refine pb_if_eq C dL_law_2516 (x := 0) (tgt := 2521) (by decide) (by omega) (fun c2516_ => ?_) (fun c2516_ => ?_)
      · refine pb_goto C dL_law_2521 (tgt := 3538) (by decide) ?_
        exact pb_V.mono (by omega) (by omega) (kk H3 S9 ls hG hX hLI (lv_sub hl [2, 3, 4, 5, 6, 7] rfl))
      · exact absurd c2516_ (by decide)
  · exact absurd rfl c2499_

set_option maxHeartbeats 1000000 in
theorem blk_largestSquare {w : pb_W} {p : Program} {l : Launch} {e : Env} {s : State} {m_ : MethodId} {below : List Frame} {meth : Method} {c : Code} {Q : State → Prop} {b0 L : Nat} {xs : Nat → Int32} (C : pb_C w p s m_ meth c #[.ref b0] cL_law 9 RX0 meth.name ret) (hN : pb_Nc s) {H : Heap} (hG : pb_G w s H) (hX : va_X b0 L xs s H) (hb0 : b0 < w.2.2.2) (i : Nat) (hi : i + 6 ≤ L) (hL : L ≤ 144) (bO sl o oL oD : Nat) (S : mS) (hLI : LWI w H bO sl o oL oD S)  (hst : StepI w l yX0_largestSquare cX0_largestSquare 4 [(0, 9, 12, 13)] yX3_largestSquare cX3_largestSquare 8 .int  [.ref bO, .int (iZ (xz xs (i + 1))), .ref oL] [.ref o, .int (iZ (xz xs (i + 1)))] H bO sl o oL oD) (bc bs : Nat) (ls : Array Slot) (hl : lv_has ls 9 [(5, .int (iZ ((i : Nat) : Int))), (0, .ref b0), (1, .ref bO), (2, .ref o), (3, .ref oL), (4, .ref oD)]) (kk : ∀ (H3 : Heap) (S3 : mS) (ls : Array Slot), pb_G w s H3 → va_X b0 L xs s H3 → LWI w H3 bO sl o oL oD S3 → lv_has ls 9 [(5, .int (iZ ((i : Nat) : Int))), (0, .ref b0), (1, .ref bO), (2, .ref o), (3, .ref oL), (4, .ref oD)] → pb_V w.2.2.2 p l e room_1 s m_ #[.ref b0] below meth c H3 bc bs Q (F0 m_ 3538 ls [])) : pb_V w.2.2.2 p l e room_1 s m_ #[.ref b0] below meth c H (bc + 49000) (bs + 228000) Q (F0 m_ 2524 ls []) := by
  obtain ⟨mc, ms, dd, postW, postX, hmc, hms, hdd, hW, h2, h3⟩ := hst
  refine pb_aload_n C dL_law_2524 rfl (lv_at hl 2 rfl) ?_
  refine pb_aload_n C dL_law_2525 rfl (lv_at hl 1 rfl) ?_
  refine pb_iload C dL_law_2526 (lv_at hl 0 rfl) ?_
  refine pb_ic C dL_law_2528 ?_
  refine pb_iadd C dL_law_2529 ?_
  refine pb_sldN C hX (i := (i + 1)) (by omega) dL_law_2530 ?_
  refine pb_aload_n C dL_law_2531 rfl (lv_at hl 4 rfl) ?_
  refine pb_go_i (bc' := bc + 49000 - mc) (bs' := bs + 228000 - ms) (pb_runSW (rest := []) C hG hN hW (lw_SW q1522 q1523 q50 q1524) hdX0_largestSquare rfl hl.1 rfl (Nat.le_of_ble_eq_true rfl) ⟨(Nat.le_of_ble_eq_true rfl), (Nat.le_of_ble_eq_true rfl)⟩ dL_law_2532) (by omega) (by omega) (fun k_ H2 hp2 => ?_)
  obtain ⟨f2, hkr, ⟨fsO, hOo⟩, hM3⟩ := h2 _ _ hp2
  have hG := hG.kept f2
  have hX := hX.kept (f2.2 _ (by have := hX.lt; omega) hb0)
  refine pb_istore C dL_law_2535 hl (by decide) rfl fun ls hl => ?_
  have hl : lv_has ls 9 [(6, .int (iZ (k_))), (5, .int (iZ (((i : Nat) : Int)))), (0, .ref (b0)), (1, .ref (bO)), (2, .ref (o)), (3, .ref (oL)), (4, .ref (oD))] := hl
  refine pb_aload_n C dL_law_2537 rfl (lv_at hl 4 rfl) ?_
  refine pb_aload_n C dL_law_2538 rfl (lv_at hl 2 rfl) ?_
  refine pb_iload C dL_law_2539 (lv_at hl 1 rfl) ?_
  refine pb_ic C dL_law_2541 ?_
  refine pb_iadd C dL_law_2542 ?_
  refine pb_sldN C hX (i := (i + 1)) (by omega) dL_law_2543 ?_
  refine pb_go_i (bc' := (bc + 49000 - mc)) (bs' := (bs + 228000 - ms)) (pb_runV (rest := []) C hG (hM3) hOo (ci := 2) rfl (lw_V q2029 q2030 q2031 q60 q2032) ⟨rfl, hdX3_largestSquare⟩ rfl hl.1 rfl (Nat.le_of_ble_eq_true rfl) ⟨show dd + 1 ≤ 27 from by omega, show 8 + (8 + 11) + 64 * dd ≤ 11162 from by omega⟩ dL_law_2544) (by omega) (by omega) (fun z_ H3 hp_ => ?_)
  obtain ⟨f3, S9, hMW9, hk9, hv9, hb9, hLI⟩ := h3 _ _ _ _ hp2 hp_
  have hG := hG.kept f3
  have hX := hX.kept (f3.2 _ (by have := hX.lt; omega) hb0)
  obtain ⟨fsP, hOp⟩ := hMW9.o
  refine pb_istore C dL_law_2547 hl (by decide) rfl fun ls hl => ?_
  have hl : lv_has ls 9 [(7, .int (iZ (z_))), (6, .int (iZ (k_))), (5, .int (iZ (((i : Nat) : Int)))), (0, .ref (b0)), (1, .ref (bO)), (2, .ref (o)), (3, .ref (oL)), (4, .ref (oD))] := hl
  refine pb_aload_n C dL_law_2549 rfl (lv_at hl 5 rfl) ?_
  refine pb_go_x (bc' := (bc + 49000 - mc)) (bs' := (bs + 228000 - ms)) (pb_runV (rest := []) C hG (met_X3_thrown l o S9 hMW9) hOp (ci := 2) rfl (lw_V q1786 q1787 q1788 q60 q1789) ⟨rfl, hdX3_thrown⟩ rfl hl.1 rfl (Nat.le_of_ble_eq_true rfl) ⟨(Nat.le_of_ble_eq_true rfl), (Nat.le_of_ble_eq_true rfl)⟩ dL_law_2550) (by omega) (by omega) ?_
  refine pb_eq (g2 := F0 m_ 2553 ls [.int (iZ (k_))]) (congrArg (fun z9 => F0 m_ 2553 ls [.int (iZ z9)]) (show (S9.1 0) = k_ from hk9)) ?_
  refine pb_iload C dL_law_2553 (lv_at hl 1 rfl) ?_
  refine pb_icmp_eq C dL_law_2555 (x := k_) (y := k_) (tgt := 2560) (by decide) (by omega) (by omega) (fun c2555_ => ?_) (fun c2555_ => ?_)
  · refine pb_iload C dL_law_2560 (lv_at hl 1 rfl) ?_
    refine pb_if_ne C dL_law_2562 (x := k_) (tgt := 2577) (by decide) (by omega) (fun c2562_ => ?_) (fun c2562_ => ?_)
    · refine pb_goto C dL_law_2577 (tgt := 3538) (by decide) ?_
      exact pb_V.mono (by omega) (by omega) (kk H3 S9 ls hG hX hLI (lv_sub hl [2, 3, 4, 5, 6, 7] rfl))
    · obtain ⟨hzr, g9, hA9⟩ := hv9 c2562_
      refine pb_aload_n C dL_law_2565 rfl (lv_at hl 6 rfl) ?_
      refine pb_ic C dL_law_2566 ?_
      refine pb_lald C hA9.b (i := 0) (v := .long (lZ (z_))) (by omega) (if_pos rfl) dL_law_2567 ?_
      refine pb_iload C dL_law_2568 (lv_at hl 0 rfl) ?_
      refine pb_i2l C dL_law_2570 (x := z_) (by omega) ?_
      refine pb_lcmpE C (x := lZ z_) dL_law_2571 ?_
      refine pb_if_eq C dL_law_2572 (x := 0) (tgt := 2577) (by decide) (by omega) (fun c2572_ => ?_) (fun c2572_ => ?_)
      · refine pb_goto C dL_law_2577 (tgt := 3538) (by decide) ?_
        exact pb_V.mono (by omega) (by omega) (kk H3 S9 ls hG hX hLI (lv_sub hl [2, 3, 4, 5, 6, 7] rfl))
      · exact absurd c2572_ (by decide)
  · exact absurd rfl c2555_

set_option maxHeartbeats 1000000 in
theorem blk_largestSquareByCells {w : pb_W} {p : Program} {l : Launch} {e : Env} {s : State} {m_ : MethodId} {below : List Frame} {meth : Method} {c : Code} {Q : State → Prop} {b0 L : Nat} {xs : Nat → Int32} (C : pb_C w p s m_ meth c #[.ref b0] cL_law 9 RX0 meth.name ret) (hN : pb_Nc s) {H : Heap} (hG : pb_G w s H) (hX : va_X b0 L xs s H) (hb0 : b0 < w.2.2.2) (i : Nat) (hi : i + 6 ≤ L) (hL : L ≤ 144) (bO sl o oL oD : Nat) (S : mS) (hLI : LWI w H bO sl o oL oD S)  (hst : StepI w l yX0_largestSquareByCells cX0_largestSquareByCells 4 [(0, 9, 12, 13)] yX3_largestSquareByCells cX3_largestSquareByCells 2 .int  [.ref bO, .int (iZ (xz xs (i + 1))), .ref oL] [.ref o, .int (iZ (xz xs (i + 1)))] H bO sl o oL oD) (bc bs : Nat) (ls : Array Slot) (hl : lv_has ls 9 [(5, .int (iZ ((i : Nat) : Int))), (0, .ref b0), (1, .ref bO), (2, .ref o), (3, .ref oL), (4, .ref oD)]) (kk : ∀ (H3 : Heap) (S3 : mS) (ls : Array Slot), pb_G w s H3 → va_X b0 L xs s H3 → LWI w H3 bO sl o oL oD S3 → lv_has ls 9 [(5, .int (iZ ((i : Nat) : Int))), (0, .ref b0), (1, .ref bO), (2, .ref o), (3, .ref oL), (4, .ref oD)] → pb_V w.2.2.2 p l e room_1 s m_ #[.ref b0] below meth c H3 bc bs Q (F0 m_ 3538 ls [])) : pb_V w.2.2.2 p l e room_1 s m_ #[.ref b0] below meth c H (bc + 49000) (bs + 228000) Q (F0 m_ 2580 ls []) := by
  obtain ⟨mc, ms, dd, postW, postX, hmc, hms, hdd, hW, h2, h3⟩ := hst
  refine pb_aload_n C dL_law_2580 rfl (lv_at hl 2 rfl) ?_
  refine pb_aload_n C dL_law_2581 rfl (lv_at hl 1 rfl) ?_
  refine pb_iload C dL_law_2582 (lv_at hl 0 rfl) ?_
  refine pb_ic C dL_law_2584 ?_
  refine pb_iadd C dL_law_2585 ?_
  refine pb_sldN C hX (i := (i + 1)) (by omega) dL_law_2586 ?_
  refine pb_aload_n C dL_law_2587 rfl (lv_at hl 4 rfl) ?_
  refine pb_go_i (bc' := bc + 49000 - mc) (bs' := bs + 228000 - ms) (pb_runSW (rest := []) C hG hN hW (lw_SW q1529 q1530 q50 q1531) hdX0_largestSquareByCells rfl hl.1 rfl (Nat.le_of_ble_eq_true rfl) ⟨(Nat.le_of_ble_eq_true rfl), (Nat.le_of_ble_eq_true rfl)⟩ dL_law_2588) (by omega) (by omega) (fun k_ H2 hp2 => ?_)
  obtain ⟨f2, hkr, ⟨fsO, hOo⟩, hM3⟩ := h2 _ _ hp2
  have hG := hG.kept f2
  have hX := hX.kept (f2.2 _ (by have := hX.lt; omega) hb0)
  refine pb_istore C dL_law_2591 hl (by decide) rfl fun ls hl => ?_
  have hl : lv_has ls 9 [(6, .int (iZ (k_))), (5, .int (iZ (((i : Nat) : Int)))), (0, .ref (b0)), (1, .ref (bO)), (2, .ref (o)), (3, .ref (oL)), (4, .ref (oD))] := hl
  refine pb_aload_n C dL_law_2593 rfl (lv_at hl 4 rfl) ?_
  refine pb_aload_n C dL_law_2594 rfl (lv_at hl 2 rfl) ?_
  refine pb_iload C dL_law_2595 (lv_at hl 1 rfl) ?_
  refine pb_ic C dL_law_2597 ?_
  refine pb_iadd C dL_law_2598 ?_
  refine pb_sldN C hX (i := (i + 1)) (by omega) dL_law_2599 ?_
  refine pb_go_i (bc' := (bc + 49000 - mc)) (bs' := (bs + 228000 - ms)) (pb_runV (rest := []) C hG (hM3) hOo (ci := 2) rfl (lw_V q2033 q2034 q2035 q60 q2036) ⟨rfl, hdX3_largestSquareByCells⟩ rfl hl.1 rfl (Nat.le_of_ble_eq_true rfl) ⟨show dd + 1 ≤ 27 from by omega, show 8 + (2 + 11) + 64 * dd ≤ 11162 from by omega⟩ dL_law_2600) (by omega) (by omega) (fun z_ H3 hp_ => ?_)
  obtain ⟨f3, S9, hMW9, hk9, hv9, hb9, hLI⟩ := h3 _ _ _ _ hp2 hp_
  have hG := hG.kept f3
  have hX := hX.kept (f3.2 _ (by have := hX.lt; omega) hb0)
  obtain ⟨fsP, hOp⟩ := hMW9.o
  refine pb_istore C dL_law_2603 hl (by decide) rfl fun ls hl => ?_
  have hl : lv_has ls 9 [(7, .int (iZ (z_))), (6, .int (iZ (k_))), (5, .int (iZ (((i : Nat) : Int)))), (0, .ref (b0)), (1, .ref (bO)), (2, .ref (o)), (3, .ref (oL)), (4, .ref (oD))] := hl
  refine pb_aload_n C dL_law_2605 rfl (lv_at hl 5 rfl) ?_
  refine pb_go_x (bc' := (bc + 49000 - mc)) (bs' := (bs + 228000 - ms)) (pb_runV (rest := []) C hG (met_X3_thrown l o S9 hMW9) hOp (ci := 2) rfl (lw_V q1786 q1787 q1788 q60 q1789) ⟨rfl, hdX3_thrown⟩ rfl hl.1 rfl (Nat.le_of_ble_eq_true rfl) ⟨(Nat.le_of_ble_eq_true rfl), (Nat.le_of_ble_eq_true rfl)⟩ dL_law_2606) (by omega) (by omega) ?_
  refine pb_eq (g2 := F0 m_ 2609 ls [.int (iZ (k_))]) (congrArg (fun z9 => F0 m_ 2609 ls [.int (iZ z9)]) (show (S9.1 0) = k_ from hk9)) ?_
  refine pb_iload C dL_law_2609 (lv_at hl 1 rfl) ?_
  refine pb_icmp_eq C dL_law_2611 (x := k_) (y := k_) (tgt := 2616) (by decide) (by omega) (by omega) (fun c2611_ => ?_) (fun c2611_ => ?_)
  · refine pb_iload C dL_law_2616 (lv_at hl 1 rfl) ?_
    refine pb_if_ne C dL_law_2618 (x := k_) (tgt := 2633) (by decide) (by omega) (fun c2618_ => ?_) (fun c2618_ => ?_)
    · refine pb_goto C dL_law_2633 (tgt := 3538) (by decide) ?_
      exact pb_V.mono (by omega) (by omega) (kk H3 S9 ls hG hX hLI (lv_sub hl [2, 3, 4, 5, 6, 7] rfl))
    · obtain ⟨hzr, g9, hA9⟩ := hv9 c2618_
      refine pb_aload_n C dL_law_2621 rfl (lv_at hl 6 rfl) ?_
      refine pb_ic C dL_law_2622 ?_
      refine pb_lald C hA9.b (i := 0) (v := .long (lZ (z_))) (by omega) (if_pos rfl) dL_law_2623 ?_
      refine pb_iload C dL_law_2624 (lv_at hl 0 rfl) ?_
      refine pb_i2l C dL_law_2626 (x := z_) (by omega) ?_
      refine pb_lcmpE C (x := lZ z_) dL_law_2627 ?_
      refine pb_if_eq C dL_law_2628 (x := 0) (tgt := 2633) (by decide) (by omega) (fun c2628_ => ?_) (fun c2628_ => ?_)
      · refine pb_goto C dL_law_2633 (tgt := 3538) (by decide) ?_
        exact pb_V.mono (by omega) (by omega) (kk H3 S9 ls hG hX hLI (lv_sub hl [2, 3, 4, 5, 6, 7] rfl))
      · exact absurd c2628_ (by decide)
  · exact absurd rfl c2611_

set_option maxHeartbeats 1000000 in
theorem blk_steps {w : pb_W} {p : Program} {l : Launch} {e : Env} {s : State} {m_ : MethodId} {below : List Frame} {meth : Method} {c : Code} {Q : State → Prop} {b0 L : Nat} {xs : Nat → Int32} (C : pb_C w p s m_ meth c #[.ref b0] cL_law 9 RX0 meth.name ret) (hN : pb_Nc s) {H : Heap} (hG : pb_G w s H) (hX : va_X b0 L xs s H) (hb0 : b0 < w.2.2.2) (i : Nat) (hi : i + 6 ≤ L) (hL : L ≤ 144) (bO sl o oL oD : Nat) (S : mS) (hLI : LWI w H bO sl o oL oD S)  (hst : StepI w l yX0_steps cX0_steps 8 [(0, 16, 19, 13), (0, 16, 23, 15), (0, 16, 27, 64)] yX3_steps cX3_steps 12 .int  [.ref bO, .int (iZ (xz xs (i + 1))), .int (iZ (xz xs (i + 2))), .int (iZ (xz xs (i + 3))), .int (iZ (xz xs (i + 4))), .int (iZ (xz xs (i + 5))), .ref oL] [.ref o, .int (iZ (xz xs (i + 1))), .int (iZ (xz xs (i + 2))), .int (iZ (xz xs (i + 3))), .int (iZ (xz xs (i + 4))), .int (iZ (xz xs (i + 5)))] H bO sl o oL oD) (bc bs : Nat) (ls : Array Slot) (hl : lv_has ls 9 [(5, .int (iZ ((i : Nat) : Int))), (0, .ref b0), (1, .ref bO), (2, .ref o), (3, .ref oL), (4, .ref oD)]) (kk : ∀ (H3 : Heap) (S3 : mS) (ls : Array Slot), pb_G w s H3 → va_X b0 L xs s H3 → LWI w H3 bO sl o oL oD S3 → lv_has ls 9 [(5, .int (iZ ((i : Nat) : Int))), (0, .ref b0), (1, .ref bO), (2, .ref o), (3, .ref oL), (4, .ref oD)] → pb_V w.2.2.2 p l e room_1 s m_ #[.ref b0] below meth c H3 bc bs Q (F0 m_ 3538 ls [])) : pb_V w.2.2.2 p l e room_1 s m_ #[.ref b0] below meth c H (bc + 49000) (bs + 228000) Q (F0 m_ 2636 ls []) := by
  obtain ⟨mc, ms, dd, postW, postX, hmc, hms, hdd, hW, h2, h3⟩ := hst
  refine pb_aload_n C dL_law_2636 rfl (lv_at hl 2 rfl) ?_
  refine pb_aload_n C dL_law_2637 rfl (lv_at hl 1 rfl) ?_
  refine pb_iload C dL_law_2638 (lv_at hl 0 rfl) ?_
  refine pb_ic C dL_law_2640 ?_
  refine pb_iadd C dL_law_2641 ?_
  refine pb_sldN C hX (i := (i + 1)) (by omega) dL_law_2642 ?_
  refine pb_aload_n C dL_law_2643 rfl (lv_at hl 1 rfl) ?_
  refine pb_iload C dL_law_2644 (lv_at hl 0 rfl) ?_
  refine pb_ic C dL_law_2646 ?_
  refine pb_iadd C dL_law_2647 ?_
  refine pb_sldN C hX (i := (i + 2)) (by omega) dL_law_2648 ?_
  refine pb_aload_n C dL_law_2649 rfl (lv_at hl 1 rfl) ?_
  refine pb_iload C dL_law_2650 (lv_at hl 0 rfl) ?_
  refine pb_ic C dL_law_2652 ?_
  refine pb_iadd C dL_law_2653 ?_
  refine pb_sldN C hX (i := (i + 3)) (by omega) dL_law_2654 ?_
  refine pb_aload_n C dL_law_2655 rfl (lv_at hl 1 rfl) ?_
  refine pb_iload C dL_law_2656 (lv_at hl 0 rfl) ?_
  refine pb_ic C dL_law_2658 ?_
  refine pb_iadd C dL_law_2659 ?_
  refine pb_sldN C hX (i := (i + 4)) (by omega) dL_law_2660 ?_
  refine pb_aload_n C dL_law_2661 rfl (lv_at hl 1 rfl) ?_
  refine pb_iload C dL_law_2662 (lv_at hl 0 rfl) ?_
  refine pb_ic C dL_law_2664 ?_
  refine pb_iadd C dL_law_2665 ?_
  refine pb_sldN C hX (i := (i + 5)) (by omega) dL_law_2666 ?_
  refine pb_aload_n C dL_law_2667 rfl (lv_at hl 4 rfl) ?_
  refine pb_go_i (bc' := bc + 49000 - mc) (bs' := bs + 228000 - ms) (pb_runSW (rest := []) C hG hN hW (lw_SW q1541 q1542 q50 q1543) hdX0_steps rfl hl.1 rfl (Nat.le_of_ble_eq_true rfl) ⟨(Nat.le_of_ble_eq_true rfl), (Nat.le_of_ble_eq_true rfl)⟩ dL_law_2668) (by omega) (by omega) (fun k_ H2 hp2 => ?_)
  obtain ⟨f2, hkr, ⟨fsO, hOo⟩, hM3⟩ := h2 _ _ hp2
  have hG := hG.kept f2
  have hX := hX.kept (f2.2 _ (by have := hX.lt; omega) hb0)
  refine pb_istore C dL_law_2671 hl (by decide) rfl fun ls hl => ?_
  have hl : lv_has ls 9 [(6, .int (iZ (k_))), (5, .int (iZ (((i : Nat) : Int)))), (0, .ref (b0)), (1, .ref (bO)), (2, .ref (o)), (3, .ref (oL)), (4, .ref (oD))] := hl
  refine pb_aload_n C dL_law_2673 rfl (lv_at hl 4 rfl) ?_
  refine pb_aload_n C dL_law_2674 rfl (lv_at hl 2 rfl) ?_
  refine pb_iload C dL_law_2675 (lv_at hl 1 rfl) ?_
  refine pb_ic C dL_law_2677 ?_
  refine pb_iadd C dL_law_2678 ?_
  refine pb_sldN C hX (i := (i + 1)) (by omega) dL_law_2679 ?_
  refine pb_aload_n C dL_law_2680 rfl (lv_at hl 2 rfl) ?_
  refine pb_iload C dL_law_2681 (lv_at hl 1 rfl) ?_
  refine pb_ic C dL_law_2683 ?_
  refine pb_iadd C dL_law_2684 ?_
  refine pb_sldN C hX (i := (i + 2)) (by omega) dL_law_2685 ?_
  refine pb_aload_n C dL_law_2686 rfl (lv_at hl 2 rfl) ?_
  refine pb_iload C dL_law_2687 (lv_at hl 1 rfl) ?_
  refine pb_ic C dL_law_2689 ?_
  refine pb_iadd C dL_law_2690 ?_
  refine pb_sldN C hX (i := (i + 3)) (by omega) dL_law_2691 ?_
  refine pb_aload_n C dL_law_2692 rfl (lv_at hl 2 rfl) ?_
  refine pb_iload C dL_law_2693 (lv_at hl 1 rfl) ?_
  refine pb_ic C dL_law_2695 ?_
  refine pb_iadd C dL_law_2696 ?_
  refine pb_sldN C hX (i := (i + 4)) (by omega) dL_law_2697 ?_
  refine pb_aload_n C dL_law_2698 rfl (lv_at hl 2 rfl) ?_
  refine pb_iload C dL_law_2699 (lv_at hl 1 rfl) ?_
  refine pb_ic C dL_law_2701 ?_
  refine pb_iadd C dL_law_2702 ?_
  refine pb_sldN C hX (i := (i + 5)) (by omega) dL_law_2703 ?_
  refine pb_go_i (bc' := (bc + 49000 - mc)) (bs' := (bs + 228000 - ms)) (pb_runV (rest := []) C hG (hM3) hOo (ci := 2) rfl (lw_V q2038 q2039 q2040 q60 q2041) ⟨rfl, hdX3_steps⟩ rfl hl.1 rfl (Nat.le_of_ble_eq_true rfl) ⟨show dd + 1 ≤ 27 from by omega, show 8 + (12 + 11) + 64 * dd ≤ 11162 from by omega⟩ dL_law_2704) (by omega) (by omega) (fun z_ H3 hp_ => ?_)
  obtain ⟨f3, S9, hMW9, hk9, hv9, hb9, hLI⟩ := h3 _ _ _ _ hp2 hp_
  have hG := hG.kept f3
  have hX := hX.kept (f3.2 _ (by have := hX.lt; omega) hb0)
  obtain ⟨fsP, hOp⟩ := hMW9.o
  refine pb_istore C dL_law_2707 hl (by decide) rfl fun ls hl => ?_
  have hl : lv_has ls 9 [(7, .int (iZ (z_))), (6, .int (iZ (k_))), (5, .int (iZ (((i : Nat) : Int)))), (0, .ref (b0)), (1, .ref (bO)), (2, .ref (o)), (3, .ref (oL)), (4, .ref (oD))] := hl
  refine pb_aload_n C dL_law_2709 rfl (lv_at hl 5 rfl) ?_
  refine pb_go_x (bc' := (bc + 49000 - mc)) (bs' := (bs + 228000 - ms)) (pb_runV (rest := []) C hG (met_X3_thrown l o S9 hMW9) hOp (ci := 2) rfl (lw_V q1786 q1787 q1788 q60 q1789) ⟨rfl, hdX3_thrown⟩ rfl hl.1 rfl (Nat.le_of_ble_eq_true rfl) ⟨(Nat.le_of_ble_eq_true rfl), (Nat.le_of_ble_eq_true rfl)⟩ dL_law_2710) (by omega) (by omega) ?_
  refine pb_eq (g2 := F0 m_ 2713 ls [.int (iZ (k_))]) (congrArg (fun z9 => F0 m_ 2713 ls [.int (iZ z9)]) (show (S9.1 0) = k_ from hk9)) ?_
  refine pb_iload C dL_law_2713 (lv_at hl 1 rfl) ?_
  refine pb_icmp_eq C dL_law_2715 (x := k_) (y := k_) (tgt := 2720) (by decide) (by omega) (by omega) (fun c2715_ => ?_) (fun c2715_ => ?_)
  · refine pb_iload C dL_law_2720 (lv_at hl 1 rfl) ?_
    refine pb_if_ne C dL_law_2722 (x := k_) (tgt := 2737) (by decide) (by omega) (fun c2722_ => ?_) (fun c2722_ => ?_)
    · refine pb_goto C dL_law_2737 (tgt := 3538) (by decide) ?_
      exact pb_V.mono (by omega) (by omega) (kk H3 S9 ls hG hX hLI (lv_sub hl [2, 3, 4, 5, 6, 7] rfl))
    · obtain ⟨hzr, g9, hA9⟩ := hv9 c2722_
      refine pb_aload_n C dL_law_2725 rfl (lv_at hl 6 rfl) ?_
      refine pb_ic C dL_law_2726 ?_
      refine pb_lald C hA9.b (i := 0) (v := .long (lZ (z_))) (by omega) (if_pos rfl) dL_law_2727 ?_
      refine pb_iload C dL_law_2728 (lv_at hl 0 rfl) ?_
      refine pb_i2l C dL_law_2730 (x := z_) (by omega) ?_
      refine pb_lcmpE C (x := lZ z_) dL_law_2731 ?_
      refine pb_if_eq C dL_law_2732 (x := 0) (tgt := 2737) (by decide) (by omega) (fun c2732_ => ?_) (fun c2732_ => ?_)
      · refine pb_goto C dL_law_2737 (tgt := 3538) (by decide) ?_
        exact pb_V.mono (by omega) (by omega) (kk H3 S9 ls hG hX hLI (lv_sub hl [2, 3, 4, 5, 6, 7] rfl))
      · exact absurd c2732_ (by decide)
  · exact absurd rfl c2715_

set_option maxHeartbeats 1000000 in
theorem blk_stepsByRows {w : pb_W} {p : Program} {l : Launch} {e : Env} {s : State} {m_ : MethodId} {below : List Frame} {meth : Method} {c : Code} {Q : State → Prop} {b0 L : Nat} {xs : Nat → Int32} (C : pb_C w p s m_ meth c #[.ref b0] cL_law 9 RX0 meth.name ret) (hN : pb_Nc s) {H : Heap} (hG : pb_G w s H) (hX : va_X b0 L xs s H) (hb0 : b0 < w.2.2.2) (i : Nat) (hi : i + 6 ≤ L) (hL : L ≤ 144) (bO sl o oL oD : Nat) (S : mS) (hLI : LWI w H bO sl o oL oD S)  (hst : StepI w l yX0_stepsByRows cX0_stepsByRows 8 [(0, 16, 19, 13), (0, 16, 23, 15), (0, 16, 27, 64)] yX3_stepsByRows cX3_stepsByRows 6 .int  [.ref bO, .int (iZ (xz xs (i + 1))), .int (iZ (xz xs (i + 2))), .int (iZ (xz xs (i + 3))), .int (iZ (xz xs (i + 4))), .int (iZ (xz xs (i + 5))), .ref oL] [.ref o, .int (iZ (xz xs (i + 1))), .int (iZ (xz xs (i + 2))), .int (iZ (xz xs (i + 3))), .int (iZ (xz xs (i + 4))), .int (iZ (xz xs (i + 5)))] H bO sl o oL oD) (bc bs : Nat) (ls : Array Slot) (hl : lv_has ls 9 [(5, .int (iZ ((i : Nat) : Int))), (0, .ref b0), (1, .ref bO), (2, .ref o), (3, .ref oL), (4, .ref oD)]) (kk : ∀ (H3 : Heap) (S3 : mS) (ls : Array Slot), pb_G w s H3 → va_X b0 L xs s H3 → LWI w H3 bO sl o oL oD S3 → lv_has ls 9 [(5, .int (iZ ((i : Nat) : Int))), (0, .ref b0), (1, .ref bO), (2, .ref o), (3, .ref oL), (4, .ref oD)] → pb_V w.2.2.2 p l e room_1 s m_ #[.ref b0] below meth c H3 bc bs Q (F0 m_ 3538 ls [])) : pb_V w.2.2.2 p l e room_1 s m_ #[.ref b0] below meth c H (bc + 49000) (bs + 228000) Q (F0 m_ 2740 ls []) := by
  obtain ⟨mc, ms, dd, postW, postX, hmc, hms, hdd, hW, h2, h3⟩ := hst
  refine pb_aload_n C dL_law_2740 rfl (lv_at hl 2 rfl) ?_
  refine pb_aload_n C dL_law_2741 rfl (lv_at hl 1 rfl) ?_
  refine pb_iload C dL_law_2742 (lv_at hl 0 rfl) ?_
  refine pb_ic C dL_law_2744 ?_
  refine pb_iadd C dL_law_2745 ?_
  refine pb_sldN C hX (i := (i + 1)) (by omega) dL_law_2746 ?_
  refine pb_aload_n C dL_law_2747 rfl (lv_at hl 1 rfl) ?_
  refine pb_iload C dL_law_2748 (lv_at hl 0 rfl) ?_
  refine pb_ic C dL_law_2750 ?_
  refine pb_iadd C dL_law_2751 ?_
  refine pb_sldN C hX (i := (i + 2)) (by omega) dL_law_2752 ?_
  refine pb_aload_n C dL_law_2753 rfl (lv_at hl 1 rfl) ?_
  refine pb_iload C dL_law_2754 (lv_at hl 0 rfl) ?_
  refine pb_ic C dL_law_2756 ?_
  refine pb_iadd C dL_law_2757 ?_
  refine pb_sldN C hX (i := (i + 3)) (by omega) dL_law_2758 ?_
  refine pb_aload_n C dL_law_2759 rfl (lv_at hl 1 rfl) ?_
  refine pb_iload C dL_law_2760 (lv_at hl 0 rfl) ?_
  refine pb_ic C dL_law_2762 ?_
  refine pb_iadd C dL_law_2763 ?_
  refine pb_sldN C hX (i := (i + 4)) (by omega) dL_law_2764 ?_
  refine pb_aload_n C dL_law_2765 rfl (lv_at hl 1 rfl) ?_
  refine pb_iload C dL_law_2766 (lv_at hl 0 rfl) ?_
  refine pb_ic C dL_law_2768 ?_
  refine pb_iadd C dL_law_2769 ?_
  refine pb_sldN C hX (i := (i + 5)) (by omega) dL_law_2770 ?_
  refine pb_aload_n C dL_law_2771 rfl (lv_at hl 4 rfl) ?_
  refine pb_go_i (bc' := bc + 49000 - mc) (bs' := bs + 228000 - ms) (pb_runSW (rest := []) C hG hN hW (lw_SW q1576 q1577 q50 q1578) hdX0_stepsByRows rfl hl.1 rfl (Nat.le_of_ble_eq_true rfl) ⟨(Nat.le_of_ble_eq_true rfl), (Nat.le_of_ble_eq_true rfl)⟩ dL_law_2772) (by omega) (by omega) (fun k_ H2 hp2 => ?_)
  obtain ⟨f2, hkr, ⟨fsO, hOo⟩, hM3⟩ := h2 _ _ hp2
  have hG := hG.kept f2
  have hX := hX.kept (f2.2 _ (by have := hX.lt; omega) hb0)
  refine pb_istore C dL_law_2775 hl (by decide) rfl fun ls hl => ?_
  have hl : lv_has ls 9 [(6, .int (iZ (k_))), (5, .int (iZ (((i : Nat) : Int)))), (0, .ref (b0)), (1, .ref (bO)), (2, .ref (o)), (3, .ref (oL)), (4, .ref (oD))] := hl
  refine pb_aload_n C dL_law_2777 rfl (lv_at hl 4 rfl) ?_
  refine pb_aload_n C dL_law_2778 rfl (lv_at hl 2 rfl) ?_
  refine pb_iload C dL_law_2779 (lv_at hl 1 rfl) ?_
  refine pb_ic C dL_law_2781 ?_
  refine pb_iadd C dL_law_2782 ?_
  refine pb_sldN C hX (i := (i + 1)) (by omega) dL_law_2783 ?_
  refine pb_aload_n C dL_law_2784 rfl (lv_at hl 2 rfl) ?_
  refine pb_iload C dL_law_2785 (lv_at hl 1 rfl) ?_
  refine pb_ic C dL_law_2787 ?_
  refine pb_iadd C dL_law_2788 ?_
  refine pb_sldN C hX (i := (i + 2)) (by omega) dL_law_2789 ?_
  refine pb_aload_n C dL_law_2790 rfl (lv_at hl 2 rfl) ?_
  refine pb_iload C dL_law_2791 (lv_at hl 1 rfl) ?_
  refine pb_ic C dL_law_2793 ?_
  refine pb_iadd C dL_law_2794 ?_
  refine pb_sldN C hX (i := (i + 3)) (by omega) dL_law_2795 ?_
  refine pb_aload_n C dL_law_2796 rfl (lv_at hl 2 rfl) ?_
  refine pb_iload C dL_law_2797 (lv_at hl 1 rfl) ?_
  refine pb_ic C dL_law_2799 ?_
  refine pb_iadd C dL_law_2800 ?_
  refine pb_sldN C hX (i := (i + 4)) (by omega) dL_law_2801 ?_
  refine pb_aload_n C dL_law_2802 rfl (lv_at hl 2 rfl) ?_
  refine pb_iload C dL_law_2803 (lv_at hl 1 rfl) ?_
  refine pb_ic C dL_law_2805 ?_
  refine pb_iadd C dL_law_2806 ?_
  refine pb_sldN C hX (i := (i + 5)) (by omega) dL_law_2807 ?_
  refine pb_go_i (bc' := (bc + 49000 - mc)) (bs' := (bs + 228000 - ms)) (pb_runV (rest := []) C hG (hM3) hOo (ci := 2) rfl (lw_V q2042 q2043 q2044 q60 q2045) ⟨rfl, hdX3_stepsByRows⟩ rfl hl.1 rfl (Nat.le_of_ble_eq_true rfl) ⟨show dd + 1 ≤ 27 from by omega, show 8 + (6 + 11) + 64 * dd ≤ 11162 from by omega⟩ dL_law_2808) (by omega) (by omega) (fun z_ H3 hp_ => ?_)
  obtain ⟨f3, S9, hMW9, hk9, hv9, hb9, hLI⟩ := h3 _ _ _ _ hp2 hp_
  have hG := hG.kept f3
  have hX := hX.kept (f3.2 _ (by have := hX.lt; omega) hb0)
  obtain ⟨fsP, hOp⟩ := hMW9.o
  refine pb_istore C dL_law_2811 hl (by decide) rfl fun ls hl => ?_
  have hl : lv_has ls 9 [(7, .int (iZ (z_))), (6, .int (iZ (k_))), (5, .int (iZ (((i : Nat) : Int)))), (0, .ref (b0)), (1, .ref (bO)), (2, .ref (o)), (3, .ref (oL)), (4, .ref (oD))] := hl
  refine pb_aload_n C dL_law_2813 rfl (lv_at hl 5 rfl) ?_
  refine pb_go_x (bc' := (bc + 49000 - mc)) (bs' := (bs + 228000 - ms)) (pb_runV (rest := []) C hG (met_X3_thrown l o S9 hMW9) hOp (ci := 2) rfl (lw_V q1786 q1787 q1788 q60 q1789) ⟨rfl, hdX3_thrown⟩ rfl hl.1 rfl (Nat.le_of_ble_eq_true rfl) ⟨(Nat.le_of_ble_eq_true rfl), (Nat.le_of_ble_eq_true rfl)⟩ dL_law_2814) (by omega) (by omega) ?_
  refine pb_eq (g2 := F0 m_ 2817 ls [.int (iZ (k_))]) (congrArg (fun z9 => F0 m_ 2817 ls [.int (iZ z9)]) (show (S9.1 0) = k_ from hk9)) ?_
  refine pb_iload C dL_law_2817 (lv_at hl 1 rfl) ?_
  refine pb_icmp_eq C dL_law_2819 (x := k_) (y := k_) (tgt := 2824) (by decide) (by omega) (by omega) (fun c2819_ => ?_) (fun c2819_ => ?_)
  · refine pb_iload C dL_law_2824 (lv_at hl 1 rfl) ?_
    refine pb_if_ne C dL_law_2826 (x := k_) (tgt := 2841) (by decide) (by omega) (fun c2826_ => ?_) (fun c2826_ => ?_)
    · refine pb_goto C dL_law_2841 (tgt := 3538) (by decide) ?_
      exact pb_V.mono (by omega) (by omega) (kk H3 S9 ls hG hX hLI (lv_sub hl [2, 3, 4, 5, 6, 7] rfl))
    · obtain ⟨hzr, g9, hA9⟩ := hv9 c2826_
      refine pb_aload_n C dL_law_2829 rfl (lv_at hl 6 rfl) ?_
      refine pb_ic C dL_law_2830 ?_
      refine pb_lald C hA9.b (i := 0) (v := .long (lZ (z_))) (by omega) (if_pos rfl) dL_law_2831 ?_
      refine pb_iload C dL_law_2832 (lv_at hl 0 rfl) ?_
      refine pb_i2l C dL_law_2834 (x := z_) (by omega) ?_
      refine pb_lcmpE C (x := lZ z_) dL_law_2835 ?_
      refine pb_if_eq C dL_law_2836 (x := 0) (tgt := 2841) (by decide) (by omega) (fun c2836_ => ?_) (fun c2836_ => ?_)
      · refine pb_goto C dL_law_2841 (tgt := 3538) (by decide) ?_
        exact pb_V.mono (by omega) (by omega) (kk H3 S9 ls hG hX hLI (lv_sub hl [2, 3, 4, 5, 6, 7] rfl))
      · exact absurd c2836_ (by decide)
  · exact absurd rfl c2819_

set_option maxHeartbeats 1000000 in
theorem blk_outlineCount {w : pb_W} {p : Program} {l : Launch} {e : Env} {s : State} {m_ : MethodId} {below : List Frame} {meth : Method} {c : Code} {Q : State → Prop} {b0 L : Nat} {xs : Nat → Int32} (C : pb_C w p s m_ meth c #[.ref b0] cL_law 9 RX0 meth.name ret) (hN : pb_Nc s) {H : Heap} (hG : pb_G w s H) (hX : va_X b0 L xs s H) (hb0 : b0 < w.2.2.2) (i : Nat) (hi : i + 6 ≤ L) (hL : L ≤ 144) (bO sl o oL oD : Nat) (S : mS) (hLI : LWI w H bO sl o oL oD S)  (hst : StepI w l yX0_outlineCount cX0_outlineCount 4 [(0, 9, 12, 13)] yX3_outlineCount cX3_outlineCount 2 .int  [.ref bO, .int (iZ (xz xs (i + 1))), .ref oL] [.ref o, .int (iZ (xz xs (i + 1)))] H bO sl o oL oD) (bc bs : Nat) (ls : Array Slot) (hl : lv_has ls 9 [(5, .int (iZ ((i : Nat) : Int))), (0, .ref b0), (1, .ref bO), (2, .ref o), (3, .ref oL), (4, .ref oD)]) (kk : ∀ (H3 : Heap) (S3 : mS) (ls : Array Slot), pb_G w s H3 → va_X b0 L xs s H3 → LWI w H3 bO sl o oL oD S3 → lv_has ls 9 [(5, .int (iZ ((i : Nat) : Int))), (0, .ref b0), (1, .ref bO), (2, .ref o), (3, .ref oL), (4, .ref oD)] → pb_V w.2.2.2 p l e room_1 s m_ #[.ref b0] below meth c H3 bc bs Q (F0 m_ 3538 ls [])) : pb_V w.2.2.2 p l e room_1 s m_ #[.ref b0] below meth c H (bc + 49000) (bs + 228000) Q (F0 m_ 2844 ls []) := by
  obtain ⟨mc, ms, dd, postW, postX, hmc, hms, hdd, hW, h2, h3⟩ := hst
  refine pb_aload_n C dL_law_2844 rfl (lv_at hl 2 rfl) ?_
  refine pb_aload_n C dL_law_2845 rfl (lv_at hl 1 rfl) ?_
  refine pb_iload C dL_law_2846 (lv_at hl 0 rfl) ?_
  refine pb_ic C dL_law_2848 ?_
  refine pb_iadd C dL_law_2849 ?_
  refine pb_sldN C hX (i := (i + 1)) (by omega) dL_law_2850 ?_
  refine pb_aload_n C dL_law_2851 rfl (lv_at hl 4 rfl) ?_
  refine pb_go_i (bc' := bc + 49000 - mc) (bs' := bs + 228000 - ms) (pb_runSW (rest := []) C hG hN hW (lw_SW q1585 q1586 q50 q1587) hdX0_outlineCount rfl hl.1 rfl (Nat.le_of_ble_eq_true rfl) ⟨(Nat.le_of_ble_eq_true rfl), (Nat.le_of_ble_eq_true rfl)⟩ dL_law_2852) (by omega) (by omega) (fun k_ H2 hp2 => ?_)
  obtain ⟨f2, hkr, ⟨fsO, hOo⟩, hM3⟩ := h2 _ _ hp2
  have hG := hG.kept f2
  have hX := hX.kept (f2.2 _ (by have := hX.lt; omega) hb0)
  refine pb_istore C dL_law_2855 hl (by decide) rfl fun ls hl => ?_
  have hl : lv_has ls 9 [(6, .int (iZ (k_))), (5, .int (iZ (((i : Nat) : Int)))), (0, .ref (b0)), (1, .ref (bO)), (2, .ref (o)), (3, .ref (oL)), (4, .ref (oD))] := hl
  refine pb_aload_n C dL_law_2857 rfl (lv_at hl 4 rfl) ?_
  refine pb_aload_n C dL_law_2858 rfl (lv_at hl 2 rfl) ?_
  refine pb_iload C dL_law_2859 (lv_at hl 1 rfl) ?_
  refine pb_ic C dL_law_2861 ?_
  refine pb_iadd C dL_law_2862 ?_
  refine pb_sldN C hX (i := (i + 1)) (by omega) dL_law_2863 ?_
  refine pb_go_i (bc' := (bc + 49000 - mc)) (bs' := (bs + 228000 - ms)) (pb_runV (rest := []) C hG (hM3) hOo (ci := 2) rfl (lw_V q2047 q2048 q2049 q60 q2050) ⟨rfl, hdX3_outlineCount⟩ rfl hl.1 rfl (Nat.le_of_ble_eq_true rfl) ⟨show dd + 1 ≤ 27 from by omega, show 8 + (2 + 11) + 64 * dd ≤ 11162 from by omega⟩ dL_law_2864) (by omega) (by omega) (fun z_ H3 hp_ => ?_)
  obtain ⟨f3, S9, hMW9, hk9, hv9, hb9, hLI⟩ := h3 _ _ _ _ hp2 hp_
  have hG := hG.kept f3
  have hX := hX.kept (f3.2 _ (by have := hX.lt; omega) hb0)
  obtain ⟨fsP, hOp⟩ := hMW9.o
  refine pb_istore C dL_law_2867 hl (by decide) rfl fun ls hl => ?_
  have hl : lv_has ls 9 [(7, .int (iZ (z_))), (6, .int (iZ (k_))), (5, .int (iZ (((i : Nat) : Int)))), (0, .ref (b0)), (1, .ref (bO)), (2, .ref (o)), (3, .ref (oL)), (4, .ref (oD))] := hl
  refine pb_aload_n C dL_law_2869 rfl (lv_at hl 5 rfl) ?_
  refine pb_go_x (bc' := (bc + 49000 - mc)) (bs' := (bs + 228000 - ms)) (pb_runV (rest := []) C hG (met_X3_thrown l o S9 hMW9) hOp (ci := 2) rfl (lw_V q1786 q1787 q1788 q60 q1789) ⟨rfl, hdX3_thrown⟩ rfl hl.1 rfl (Nat.le_of_ble_eq_true rfl) ⟨(Nat.le_of_ble_eq_true rfl), (Nat.le_of_ble_eq_true rfl)⟩ dL_law_2870) (by omega) (by omega) ?_
  refine pb_eq (g2 := F0 m_ 2873 ls [.int (iZ (k_))]) (congrArg (fun z9 => F0 m_ 2873 ls [.int (iZ z9)]) (show (S9.1 0) = k_ from hk9)) ?_
  refine pb_iload C dL_law_2873 (lv_at hl 1 rfl) ?_
  refine pb_icmp_eq C dL_law_2875 (x := k_) (y := k_) (tgt := 2880) (by decide) (by omega) (by omega) (fun c2875_ => ?_) (fun c2875_ => ?_)
  · refine pb_iload C dL_law_2880 (lv_at hl 1 rfl) ?_
    refine pb_if_ne C dL_law_2882 (x := k_) (tgt := 2897) (by decide) (by omega) (fun c2882_ => ?_) (fun c2882_ => ?_)
    · refine pb_goto C dL_law_2897 (tgt := 3538) (by decide) ?_
      exact pb_V.mono (by omega) (by omega) (kk H3 S9 ls hG hX hLI (lv_sub hl [2, 3, 4, 5, 6, 7] rfl))
    · obtain ⟨hzr, g9, hA9⟩ := hv9 c2882_
      refine pb_aload_n C dL_law_2885 rfl (lv_at hl 6 rfl) ?_
      refine pb_ic C dL_law_2886 ?_
      refine pb_lald C hA9.b (i := 0) (v := .long (lZ (z_))) (by omega) (if_pos rfl) dL_law_2887 ?_
      refine pb_iload C dL_law_2888 (lv_at hl 0 rfl) ?_
      refine pb_i2l C dL_law_2890 (x := z_) (by omega) ?_
      refine pb_lcmpE C (x := lZ z_) dL_law_2891 ?_
      refine pb_if_eq C dL_law_2892 (x := 0) (tgt := 2897) (by decide) (by omega) (fun c2892_ => ?_) (fun c2892_ => ?_)
      · refine pb_goto C dL_law_2897 (tgt := 3538) (by decide) ?_
        exact pb_V.mono (by omega) (by omega) (kk H3 S9 ls hG hX hLI (lv_sub hl [2, 3, 4, 5, 6, 7] rfl))
      · exact absurd c2892_ (by decide)
  · exact absurd rfl c2875_

set_option maxHeartbeats 1000000 in
theorem blk_cornerCount {w : pb_W} {p : Program} {l : Launch} {e : Env} {s : State} {m_ : MethodId} {below : List Frame} {meth : Method} {c : Code} {Q : State → Prop} {b0 L : Nat} {xs : Nat → Int32} (C : pb_C w p s m_ meth c #[.ref b0] cL_law 9 RX0 meth.name ret) (hN : pb_Nc s) {H : Heap} (hG : pb_G w s H) (hX : va_X b0 L xs s H) (hb0 : b0 < w.2.2.2) (i : Nat) (hi : i + 6 ≤ L) (hL : L ≤ 144) (bO sl o oL oD : Nat) (S : mS) (hLI : LWI w H bO sl o oL oD S)  (hst : StepI w l yX0_cornerCount cX0_cornerCount 5 [(0, 10, 13, 13), (0, 10, 17, 64)] yX3_cornerCount cX3_cornerCount 3 .int  [.ref bO, .int (iZ (xz xs (i + 1))), .int (iZ (xz xs (i + 2))), .ref oL] [.ref o, .int (iZ (xz xs (i + 1))), .int (iZ (xz xs (i + 2)))] H bO sl o oL oD) (bc bs : Nat) (ls : Array Slot) (hl : lv_has ls 9 [(5, .int (iZ ((i : Nat) : Int))), (0, .ref b0), (1, .ref bO), (2, .ref o), (3, .ref oL), (4, .ref oD)]) (kk : ∀ (H3 : Heap) (S3 : mS) (ls : Array Slot), pb_G w s H3 → va_X b0 L xs s H3 → LWI w H3 bO sl o oL oD S3 → lv_has ls 9 [(5, .int (iZ ((i : Nat) : Int))), (0, .ref b0), (1, .ref bO), (2, .ref o), (3, .ref oL), (4, .ref oD)] → pb_V w.2.2.2 p l e room_1 s m_ #[.ref b0] below meth c H3 bc bs Q (F0 m_ 3538 ls [])) : pb_V w.2.2.2 p l e room_1 s m_ #[.ref b0] below meth c H (bc + 49000) (bs + 228000) Q (F0 m_ 2900 ls []) := by
  obtain ⟨mc, ms, dd, postW, postX, hmc, hms, hdd, hW, h2, h3⟩ := hst
  refine pb_aload_n C dL_law_2900 rfl (lv_at hl 2 rfl) ?_
  refine pb_aload_n C dL_law_2901 rfl (lv_at hl 1 rfl) ?_
  refine pb_iload C dL_law_2902 (lv_at hl 0 rfl) ?_
  refine pb_ic C dL_law_2904 ?_
  refine pb_iadd C dL_law_2905 ?_
  refine pb_sldN C hX (i := (i + 1)) (by omega) dL_law_2906 ?_
  refine pb_aload_n C dL_law_2907 rfl (lv_at hl 1 rfl) ?_
  refine pb_iload C dL_law_2908 (lv_at hl 0 rfl) ?_
  refine pb_ic C dL_law_2910 ?_
  refine pb_iadd C dL_law_2911 ?_
  refine pb_sldN C hX (i := (i + 2)) (by omega) dL_law_2912 ?_
  refine pb_aload_n C dL_law_2913 rfl (lv_at hl 4 rfl) ?_
  refine pb_go_i (bc' := bc + 49000 - mc) (bs' := bs + 228000 - ms) (pb_runSW (rest := []) C hG hN hW (lw_SW q1592 q1593 q50 q1594) hdX0_cornerCount rfl hl.1 rfl (Nat.le_of_ble_eq_true rfl) ⟨(Nat.le_of_ble_eq_true rfl), (Nat.le_of_ble_eq_true rfl)⟩ dL_law_2914) (by omega) (by omega) (fun k_ H2 hp2 => ?_)
  obtain ⟨f2, hkr, ⟨fsO, hOo⟩, hM3⟩ := h2 _ _ hp2
  have hG := hG.kept f2
  have hX := hX.kept (f2.2 _ (by have := hX.lt; omega) hb0)
  refine pb_istore C dL_law_2917 hl (by decide) rfl fun ls hl => ?_
  have hl : lv_has ls 9 [(6, .int (iZ (k_))), (5, .int (iZ (((i : Nat) : Int)))), (0, .ref (b0)), (1, .ref (bO)), (2, .ref (o)), (3, .ref (oL)), (4, .ref (oD))] := hl
  refine pb_aload_n C dL_law_2919 rfl (lv_at hl 4 rfl) ?_
  refine pb_aload_n C dL_law_2920 rfl (lv_at hl 2 rfl) ?_
  refine pb_iload C dL_law_2921 (lv_at hl 1 rfl) ?_
  refine pb_ic C dL_law_2923 ?_
  refine pb_iadd C dL_law_2924 ?_
  refine pb_sldN C hX (i := (i + 1)) (by omega) dL_law_2925 ?_
  refine pb_aload_n C dL_law_2926 rfl (lv_at hl 2 rfl) ?_
  refine pb_iload C dL_law_2927 (lv_at hl 1 rfl) ?_
  refine pb_ic C dL_law_2929 ?_
  refine pb_iadd C dL_law_2930 ?_
  refine pb_sldN C hX (i := (i + 2)) (by omega) dL_law_2931 ?_
  refine pb_go_i (bc' := (bc + 49000 - mc)) (bs' := (bs + 228000 - ms)) (pb_runV (rest := []) C hG (hM3) hOo (ci := 2) rfl (lw_V q2067 q2068 q2069 q60 q2070) ⟨rfl, hdX3_cornerCount⟩ rfl hl.1 rfl (Nat.le_of_ble_eq_true rfl) ⟨show dd + 1 ≤ 27 from by omega, show 8 + (3 + 11) + 64 * dd ≤ 11162 from by omega⟩ dL_law_2932) (by omega) (by omega) (fun z_ H3 hp_ => ?_)
  obtain ⟨f3, S9, hMW9, hk9, hv9, hb9, hLI⟩ := h3 _ _ _ _ hp2 hp_
  have hG := hG.kept f3
  have hX := hX.kept (f3.2 _ (by have := hX.lt; omega) hb0)
  obtain ⟨fsP, hOp⟩ := hMW9.o
  refine pb_istore C dL_law_2935 hl (by decide) rfl fun ls hl => ?_
  have hl : lv_has ls 9 [(7, .int (iZ (z_))), (6, .int (iZ (k_))), (5, .int (iZ (((i : Nat) : Int)))), (0, .ref (b0)), (1, .ref (bO)), (2, .ref (o)), (3, .ref (oL)), (4, .ref (oD))] := hl
  refine pb_aload_n C dL_law_2937 rfl (lv_at hl 5 rfl) ?_
  refine pb_go_x (bc' := (bc + 49000 - mc)) (bs' := (bs + 228000 - ms)) (pb_runV (rest := []) C hG (met_X3_thrown l o S9 hMW9) hOp (ci := 2) rfl (lw_V q1786 q1787 q1788 q60 q1789) ⟨rfl, hdX3_thrown⟩ rfl hl.1 rfl (Nat.le_of_ble_eq_true rfl) ⟨(Nat.le_of_ble_eq_true rfl), (Nat.le_of_ble_eq_true rfl)⟩ dL_law_2938) (by omega) (by omega) ?_
  refine pb_eq (g2 := F0 m_ 2941 ls [.int (iZ (k_))]) (congrArg (fun z9 => F0 m_ 2941 ls [.int (iZ z9)]) (show (S9.1 0) = k_ from hk9)) ?_
  refine pb_iload C dL_law_2941 (lv_at hl 1 rfl) ?_
  refine pb_icmp_eq C dL_law_2943 (x := k_) (y := k_) (tgt := 2948) (by decide) (by omega) (by omega) (fun c2943_ => ?_) (fun c2943_ => ?_)
  · refine pb_iload C dL_law_2948 (lv_at hl 1 rfl) ?_
    refine pb_if_ne C dL_law_2950 (x := k_) (tgt := 2965) (by decide) (by omega) (fun c2950_ => ?_) (fun c2950_ => ?_)
    · refine pb_goto C dL_law_2965 (tgt := 3538) (by decide) ?_
      exact pb_V.mono (by omega) (by omega) (kk H3 S9 ls hG hX hLI (lv_sub hl [2, 3, 4, 5, 6, 7] rfl))
    · obtain ⟨hzr, g9, hA9⟩ := hv9 c2950_
      refine pb_aload_n C dL_law_2953 rfl (lv_at hl 6 rfl) ?_
      refine pb_ic C dL_law_2954 ?_
      refine pb_lald C hA9.b (i := 0) (v := .long (lZ (z_))) (by omega) (if_pos rfl) dL_law_2955 ?_
      refine pb_iload C dL_law_2956 (lv_at hl 0 rfl) ?_
      refine pb_i2l C dL_law_2958 (x := z_) (by omega) ?_
      refine pb_lcmpE C (x := lZ z_) dL_law_2959 ?_
      refine pb_if_eq C dL_law_2960 (x := 0) (tgt := 2965) (by decide) (by omega) (fun c2960_ => ?_) (fun c2960_ => ?_)
      · refine pb_goto C dL_law_2965 (tgt := 3538) (by decide) ?_
        exact pb_V.mono (by omega) (by omega) (kk H3 S9 ls hG hX hLI (lv_sub hl [2, 3, 4, 5, 6, 7] rfl))
      · exact absurd c2960_ (by decide)
  · exact absurd rfl c2943_

set_option maxHeartbeats 1000000 in
theorem blk_cornerX {w : pb_W} {p : Program} {l : Launch} {e : Env} {s : State} {m_ : MethodId} {below : List Frame} {meth : Method} {c : Code} {Q : State → Prop} {b0 L : Nat} {xs : Nat → Int32} (C : pb_C w p s m_ meth c #[.ref b0] cL_law 9 RX0 meth.name ret) (hN : pb_Nc s) {H : Heap} (hG : pb_G w s H) (hX : va_X b0 L xs s H) (hb0 : b0 < w.2.2.2) (i : Nat) (hi : i + 6 ≤ L) (hL : L ≤ 144) (bO sl o oL oD : Nat) (S : mS) (hLI : LWI w H bO sl o oL oD S)  (hst : StepI w l yX0_cornerX cX0_cornerX 6 [(0, 12, 15, 13), (0, 12, 19, 64)] yX3_cornerX cX3_cornerX 4 .int  [.ref bO, .int (iZ (xz xs (i + 1))), .int (iZ (xz xs (i + 2))), .int (iZ (xz xs (i + 3))), .ref oL] [.ref o, .int (iZ (xz xs (i + 1))), .int (iZ (xz xs (i + 2))), .int (iZ (xz xs (i + 3)))] H bO sl o oL oD) (bc bs : Nat) (ls : Array Slot) (hl : lv_has ls 9 [(5, .int (iZ ((i : Nat) : Int))), (0, .ref b0), (1, .ref bO), (2, .ref o), (3, .ref oL), (4, .ref oD)]) (kk : ∀ (H3 : Heap) (S3 : mS) (ls : Array Slot), pb_G w s H3 → va_X b0 L xs s H3 → LWI w H3 bO sl o oL oD S3 → lv_has ls 9 [(5, .int (iZ ((i : Nat) : Int))), (0, .ref b0), (1, .ref bO), (2, .ref o), (3, .ref oL), (4, .ref oD)] → pb_V w.2.2.2 p l e room_1 s m_ #[.ref b0] below meth c H3 bc bs Q (F0 m_ 3538 ls [])) : pb_V w.2.2.2 p l e room_1 s m_ #[.ref b0] below meth c H (bc + 49000) (bs + 228000) Q (F0 m_ 2968 ls []) := by
  obtain ⟨mc, ms, dd, postW, postX, hmc, hms, hdd, hW, h2, h3⟩ := hst
  refine pb_aload_n C dL_law_2968 rfl (lv_at hl 2 rfl) ?_
  refine pb_aload_n C dL_law_2969 rfl (lv_at hl 1 rfl) ?_
  refine pb_iload C dL_law_2970 (lv_at hl 0 rfl) ?_
  refine pb_ic C dL_law_2972 ?_
  refine pb_iadd C dL_law_2973 ?_
  refine pb_sldN C hX (i := (i + 1)) (by omega) dL_law_2974 ?_
  refine pb_aload_n C dL_law_2975 rfl (lv_at hl 1 rfl) ?_
  refine pb_iload C dL_law_2976 (lv_at hl 0 rfl) ?_
  refine pb_ic C dL_law_2978 ?_
  refine pb_iadd C dL_law_2979 ?_
  refine pb_sldN C hX (i := (i + 2)) (by omega) dL_law_2980 ?_
  refine pb_aload_n C dL_law_2981 rfl (lv_at hl 1 rfl) ?_
  refine pb_iload C dL_law_2982 (lv_at hl 0 rfl) ?_
  refine pb_ic C dL_law_2984 ?_
  refine pb_iadd C dL_law_2985 ?_
  refine pb_sldN C hX (i := (i + 3)) (by omega) dL_law_2986 ?_
  refine pb_aload_n C dL_law_2987 rfl (lv_at hl 4 rfl) ?_
  refine pb_go_i (bc' := bc + 49000 - mc) (bs' := bs + 228000 - ms) (pb_runSW (rest := []) C hG hN hW (lw_SW q1603 q1604 q50 q1605) hdX0_cornerX rfl hl.1 rfl (Nat.le_of_ble_eq_true rfl) ⟨(Nat.le_of_ble_eq_true rfl), (Nat.le_of_ble_eq_true rfl)⟩ dL_law_2988) (by omega) (by omega) (fun k_ H2 hp2 => ?_)
  obtain ⟨f2, hkr, ⟨fsO, hOo⟩, hM3⟩ := h2 _ _ hp2
  have hG := hG.kept f2
  have hX := hX.kept (f2.2 _ (by have := hX.lt; omega) hb0)
  refine pb_istore C dL_law_2991 hl (by decide) rfl fun ls hl => ?_
  have hl : lv_has ls 9 [(6, .int (iZ (k_))), (5, .int (iZ (((i : Nat) : Int)))), (0, .ref (b0)), (1, .ref (bO)), (2, .ref (o)), (3, .ref (oL)), (4, .ref (oD))] := hl
  refine pb_aload_n C dL_law_2993 rfl (lv_at hl 4 rfl) ?_
  refine pb_aload_n C dL_law_2994 rfl (lv_at hl 2 rfl) ?_
  refine pb_iload C dL_law_2995 (lv_at hl 1 rfl) ?_
  refine pb_ic C dL_law_2997 ?_
  refine pb_iadd C dL_law_2998 ?_
  refine pb_sldN C hX (i := (i + 1)) (by omega) dL_law_2999 ?_
  refine pb_aload_n C dL_law_3000 rfl (lv_at hl 2 rfl) ?_
  refine pb_iload C dL_law_3001 (lv_at hl 1 rfl) ?_
  refine pb_ic C dL_law_3003 ?_
  refine pb_iadd C dL_law_3004 ?_
  refine pb_sldN C hX (i := (i + 2)) (by omega) dL_law_3005 ?_
  refine pb_aload_n C dL_law_3006 rfl (lv_at hl 2 rfl) ?_
  refine pb_iload C dL_law_3007 (lv_at hl 1 rfl) ?_
  refine pb_ic C dL_law_3009 ?_
  refine pb_iadd C dL_law_3010 ?_
  refine pb_sldN C hX (i := (i + 3)) (by omega) dL_law_3011 ?_
  refine pb_go_i (bc' := (bc + 49000 - mc)) (bs' := (bs + 228000 - ms)) (pb_runV (rest := []) C hG (hM3) hOo (ci := 2) rfl (lw_V q2075 q2076 q2077 q60 q2078) ⟨rfl, hdX3_cornerX⟩ rfl hl.1 rfl (Nat.le_of_ble_eq_true rfl) ⟨show dd + 1 ≤ 27 from by omega, show 8 + (4 + 11) + 64 * dd ≤ 11162 from by omega⟩ dL_law_3012) (by omega) (by omega) (fun z_ H3 hp_ => ?_)
  obtain ⟨f3, S9, hMW9, hk9, hv9, hb9, hLI⟩ := h3 _ _ _ _ hp2 hp_
  have hG := hG.kept f3
  have hX := hX.kept (f3.2 _ (by have := hX.lt; omega) hb0)
  obtain ⟨fsP, hOp⟩ := hMW9.o
  refine pb_istore C dL_law_3015 hl (by decide) rfl fun ls hl => ?_
  have hl : lv_has ls 9 [(7, .int (iZ (z_))), (6, .int (iZ (k_))), (5, .int (iZ (((i : Nat) : Int)))), (0, .ref (b0)), (1, .ref (bO)), (2, .ref (o)), (3, .ref (oL)), (4, .ref (oD))] := hl
  refine pb_aload_n C dL_law_3017 rfl (lv_at hl 5 rfl) ?_
  refine pb_go_x (bc' := (bc + 49000 - mc)) (bs' := (bs + 228000 - ms)) (pb_runV (rest := []) C hG (met_X3_thrown l o S9 hMW9) hOp (ci := 2) rfl (lw_V q1786 q1787 q1788 q60 q1789) ⟨rfl, hdX3_thrown⟩ rfl hl.1 rfl (Nat.le_of_ble_eq_true rfl) ⟨(Nat.le_of_ble_eq_true rfl), (Nat.le_of_ble_eq_true rfl)⟩ dL_law_3018) (by omega) (by omega) ?_
  refine pb_eq (g2 := F0 m_ 3021 ls [.int (iZ (k_))]) (congrArg (fun z9 => F0 m_ 3021 ls [.int (iZ z9)]) (show (S9.1 0) = k_ from hk9)) ?_
  refine pb_iload C dL_law_3021 (lv_at hl 1 rfl) ?_
  refine pb_icmp_eq C dL_law_3023 (x := k_) (y := k_) (tgt := 3028) (by decide) (by omega) (by omega) (fun c3023_ => ?_) (fun c3023_ => ?_)
  · refine pb_iload C dL_law_3028 (lv_at hl 1 rfl) ?_
    refine pb_if_ne C dL_law_3030 (x := k_) (tgt := 3045) (by decide) (by omega) (fun c3030_ => ?_) (fun c3030_ => ?_)
    · refine pb_goto C dL_law_3045 (tgt := 3538) (by decide) ?_
      exact pb_V.mono (by omega) (by omega) (kk H3 S9 ls hG hX hLI (lv_sub hl [2, 3, 4, 5, 6, 7] rfl))
    · obtain ⟨hzr, g9, hA9⟩ := hv9 c3030_
      refine pb_aload_n C dL_law_3033 rfl (lv_at hl 6 rfl) ?_
      refine pb_ic C dL_law_3034 ?_
      refine pb_lald C hA9.b (i := 0) (v := .long (lZ (z_))) (by omega) (if_pos rfl) dL_law_3035 ?_
      refine pb_iload C dL_law_3036 (lv_at hl 0 rfl) ?_
      refine pb_i2l C dL_law_3038 (x := z_) (by omega) ?_
      refine pb_lcmpE C (x := lZ z_) dL_law_3039 ?_
      refine pb_if_eq C dL_law_3040 (x := 0) (tgt := 3045) (by decide) (by omega) (fun c3040_ => ?_) (fun c3040_ => ?_)
      · refine pb_goto C dL_law_3045 (tgt := 3538) (by decide) ?_
        exact pb_V.mono (by omega) (by omega) (kk H3 S9 ls hG hX hLI (lv_sub hl [2, 3, 4, 5, 6, 7] rfl))
      · exact absurd c3040_ (by decide)
  · exact absurd rfl c3023_

set_option maxHeartbeats 1000000 in
theorem blk_cornerY {w : pb_W} {p : Program} {l : Launch} {e : Env} {s : State} {m_ : MethodId} {below : List Frame} {meth : Method} {c : Code} {Q : State → Prop} {b0 L : Nat} {xs : Nat → Int32} (C : pb_C w p s m_ meth c #[.ref b0] cL_law 9 RX0 meth.name ret) (hN : pb_Nc s) {H : Heap} (hG : pb_G w s H) (hX : va_X b0 L xs s H) (hb0 : b0 < w.2.2.2) (i : Nat) (hi : i + 6 ≤ L) (hL : L ≤ 144) (bO sl o oL oD : Nat) (S : mS) (hLI : LWI w H bO sl o oL oD S)  (hst : StepI w l yX0_cornerY cX0_cornerY 6 [(0, 12, 15, 13), (0, 12, 19, 64)] yX3_cornerY cX3_cornerY 4 .int  [.ref bO, .int (iZ (xz xs (i + 1))), .int (iZ (xz xs (i + 2))), .int (iZ (xz xs (i + 3))), .ref oL] [.ref o, .int (iZ (xz xs (i + 1))), .int (iZ (xz xs (i + 2))), .int (iZ (xz xs (i + 3)))] H bO sl o oL oD) (bc bs : Nat) (ls : Array Slot) (hl : lv_has ls 9 [(5, .int (iZ ((i : Nat) : Int))), (0, .ref b0), (1, .ref bO), (2, .ref o), (3, .ref oL), (4, .ref oD)]) (kk : ∀ (H3 : Heap) (S3 : mS) (ls : Array Slot), pb_G w s H3 → va_X b0 L xs s H3 → LWI w H3 bO sl o oL oD S3 → lv_has ls 9 [(5, .int (iZ ((i : Nat) : Int))), (0, .ref b0), (1, .ref bO), (2, .ref o), (3, .ref oL), (4, .ref oD)] → pb_V w.2.2.2 p l e room_1 s m_ #[.ref b0] below meth c H3 bc bs Q (F0 m_ 3538 ls [])) : pb_V w.2.2.2 p l e room_1 s m_ #[.ref b0] below meth c H (bc + 49000) (bs + 228000) Q (F0 m_ 3048 ls []) := by
  obtain ⟨mc, ms, dd, postW, postX, hmc, hms, hdd, hW, h2, h3⟩ := hst
  refine pb_aload_n C dL_law_3048 rfl (lv_at hl 2 rfl) ?_
  refine pb_aload_n C dL_law_3049 rfl (lv_at hl 1 rfl) ?_
  refine pb_iload C dL_law_3050 (lv_at hl 0 rfl) ?_
  refine pb_ic C dL_law_3052 ?_
  refine pb_iadd C dL_law_3053 ?_
  refine pb_sldN C hX (i := (i + 1)) (by omega) dL_law_3054 ?_
  refine pb_aload_n C dL_law_3055 rfl (lv_at hl 1 rfl) ?_
  refine pb_iload C dL_law_3056 (lv_at hl 0 rfl) ?_
  refine pb_ic C dL_law_3058 ?_
  refine pb_iadd C dL_law_3059 ?_
  refine pb_sldN C hX (i := (i + 2)) (by omega) dL_law_3060 ?_
  refine pb_aload_n C dL_law_3061 rfl (lv_at hl 1 rfl) ?_
  refine pb_iload C dL_law_3062 (lv_at hl 0 rfl) ?_
  refine pb_ic C dL_law_3064 ?_
  refine pb_iadd C dL_law_3065 ?_
  refine pb_sldN C hX (i := (i + 3)) (by omega) dL_law_3066 ?_
  refine pb_aload_n C dL_law_3067 rfl (lv_at hl 4 rfl) ?_
  refine pb_go_i (bc' := bc + 49000 - mc) (bs' := bs + 228000 - ms) (pb_runSW (rest := []) C hG hN hW (lw_SW q1614 q1615 q50 q1616) hdX0_cornerY rfl hl.1 rfl (Nat.le_of_ble_eq_true rfl) ⟨(Nat.le_of_ble_eq_true rfl), (Nat.le_of_ble_eq_true rfl)⟩ dL_law_3068) (by omega) (by omega) (fun k_ H2 hp2 => ?_)
  obtain ⟨f2, hkr, ⟨fsO, hOo⟩, hM3⟩ := h2 _ _ hp2
  have hG := hG.kept f2
  have hX := hX.kept (f2.2 _ (by have := hX.lt; omega) hb0)
  refine pb_istore C dL_law_3071 hl (by decide) rfl fun ls hl => ?_
  have hl : lv_has ls 9 [(6, .int (iZ (k_))), (5, .int (iZ (((i : Nat) : Int)))), (0, .ref (b0)), (1, .ref (bO)), (2, .ref (o)), (3, .ref (oL)), (4, .ref (oD))] := hl
  refine pb_aload_n C dL_law_3073 rfl (lv_at hl 4 rfl) ?_
  refine pb_aload_n C dL_law_3074 rfl (lv_at hl 2 rfl) ?_
  refine pb_iload C dL_law_3075 (lv_at hl 1 rfl) ?_
  refine pb_ic C dL_law_3077 ?_
  refine pb_iadd C dL_law_3078 ?_
  refine pb_sldN C hX (i := (i + 1)) (by omega) dL_law_3079 ?_
  refine pb_aload_n C dL_law_3080 rfl (lv_at hl 2 rfl) ?_
  refine pb_iload C dL_law_3081 (lv_at hl 1 rfl) ?_
  refine pb_ic C dL_law_3083 ?_
  refine pb_iadd C dL_law_3084 ?_
  refine pb_sldN C hX (i := (i + 2)) (by omega) dL_law_3085 ?_
  refine pb_aload_n C dL_law_3086 rfl (lv_at hl 2 rfl) ?_
  refine pb_iload C dL_law_3087 (lv_at hl 1 rfl) ?_
  refine pb_ic C dL_law_3089 ?_
  refine pb_iadd C dL_law_3090 ?_
  refine pb_sldN C hX (i := (i + 3)) (by omega) dL_law_3091 ?_
  refine pb_go_i (bc' := (bc + 49000 - mc)) (bs' := (bs + 228000 - ms)) (pb_runV (rest := []) C hG (hM3) hOo (ci := 2) rfl (lw_V q2083 q2084 q2085 q60 q2086) ⟨rfl, hdX3_cornerY⟩ rfl hl.1 rfl (Nat.le_of_ble_eq_true rfl) ⟨show dd + 1 ≤ 27 from by omega, show 8 + (4 + 11) + 64 * dd ≤ 11162 from by omega⟩ dL_law_3092) (by omega) (by omega) (fun z_ H3 hp_ => ?_)
  obtain ⟨f3, S9, hMW9, hk9, hv9, hb9, hLI⟩ := h3 _ _ _ _ hp2 hp_
  have hG := hG.kept f3
  have hX := hX.kept (f3.2 _ (by have := hX.lt; omega) hb0)
  obtain ⟨fsP, hOp⟩ := hMW9.o
  refine pb_istore C dL_law_3095 hl (by decide) rfl fun ls hl => ?_
  have hl : lv_has ls 9 [(7, .int (iZ (z_))), (6, .int (iZ (k_))), (5, .int (iZ (((i : Nat) : Int)))), (0, .ref (b0)), (1, .ref (bO)), (2, .ref (o)), (3, .ref (oL)), (4, .ref (oD))] := hl
  refine pb_aload_n C dL_law_3097 rfl (lv_at hl 5 rfl) ?_
  refine pb_go_x (bc' := (bc + 49000 - mc)) (bs' := (bs + 228000 - ms)) (pb_runV (rest := []) C hG (met_X3_thrown l o S9 hMW9) hOp (ci := 2) rfl (lw_V q1786 q1787 q1788 q60 q1789) ⟨rfl, hdX3_thrown⟩ rfl hl.1 rfl (Nat.le_of_ble_eq_true rfl) ⟨(Nat.le_of_ble_eq_true rfl), (Nat.le_of_ble_eq_true rfl)⟩ dL_law_3098) (by omega) (by omega) ?_
  refine pb_eq (g2 := F0 m_ 3101 ls [.int (iZ (k_))]) (congrArg (fun z9 => F0 m_ 3101 ls [.int (iZ z9)]) (show (S9.1 0) = k_ from hk9)) ?_
  refine pb_iload C dL_law_3101 (lv_at hl 1 rfl) ?_
  refine pb_icmp_eq C dL_law_3103 (x := k_) (y := k_) (tgt := 3108) (by decide) (by omega) (by omega) (fun c3103_ => ?_) (fun c3103_ => ?_)
  · refine pb_iload C dL_law_3108 (lv_at hl 1 rfl) ?_
    refine pb_if_ne C dL_law_3110 (x := k_) (tgt := 3125) (by decide) (by omega) (fun c3110_ => ?_) (fun c3110_ => ?_)
    · refine pb_goto C dL_law_3125 (tgt := 3538) (by decide) ?_
      exact pb_V.mono (by omega) (by omega) (kk H3 S9 ls hG hX hLI (lv_sub hl [2, 3, 4, 5, 6, 7] rfl))
    · obtain ⟨hzr, g9, hA9⟩ := hv9 c3110_
      refine pb_aload_n C dL_law_3113 rfl (lv_at hl 6 rfl) ?_
      refine pb_ic C dL_law_3114 ?_
      refine pb_lald C hA9.b (i := 0) (v := .long (lZ (z_))) (by omega) (if_pos rfl) dL_law_3115 ?_
      refine pb_iload C dL_law_3116 (lv_at hl 0 rfl) ?_
      refine pb_i2l C dL_law_3118 (x := z_) (by omega) ?_
      refine pb_lcmpE C (x := lZ z_) dL_law_3119 ?_
      refine pb_if_eq C dL_law_3120 (x := 0) (tgt := 3125) (by decide) (by omega) (fun c3120_ => ?_) (fun c3120_ => ?_)
      · refine pb_goto C dL_law_3125 (tgt := 3538) (by decide) ?_
        exact pb_V.mono (by omega) (by omega) (kk H3 S9 ls hG hX hLI (lv_sub hl [2, 3, 4, 5, 6, 7] rfl))
      · exact absurd c3120_ (by decide)
  · exact absurd rfl c3103_

set_option maxHeartbeats 1000000 in
theorem blk_signedArea {w : pb_W} {p : Program} {l : Launch} {e : Env} {s : State} {m_ : MethodId} {below : List Frame} {meth : Method} {c : Code} {Q : State → Prop} {b0 L : Nat} {xs : Nat → Int32} (C : pb_C w p s m_ meth c #[.ref b0] cL_law 9 RX0 meth.name ret) (hN : pb_Nc s) {H : Heap} (hG : pb_G w s H) (hX : va_X b0 L xs s H) (hb0 : b0 < w.2.2.2) (i : Nat) (hi : i + 6 ≤ L) (hL : L ≤ 144) (bO sl o oL oD : Nat) (S : mS) (hLI : LWI w H bO sl o oL oD S)  (hst : StepI w l yX0_signedArea cX0_signedArea 5 [(0, 10, 13, 13), (0, 10, 17, 64)] yX3_signedArea cX3_signedArea 3 .int  [.ref bO, .int (iZ (xz xs (i + 1))), .int (iZ (xz xs (i + 2))), .ref oL] [.ref o, .int (iZ (xz xs (i + 1))), .int (iZ (xz xs (i + 2)))] H bO sl o oL oD) (bc bs : Nat) (ls : Array Slot) (hl : lv_has ls 9 [(5, .int (iZ ((i : Nat) : Int))), (0, .ref b0), (1, .ref bO), (2, .ref o), (3, .ref oL), (4, .ref oD)]) (kk : ∀ (H3 : Heap) (S3 : mS) (ls : Array Slot), pb_G w s H3 → va_X b0 L xs s H3 → LWI w H3 bO sl o oL oD S3 → lv_has ls 9 [(5, .int (iZ ((i : Nat) : Int))), (0, .ref b0), (1, .ref bO), (2, .ref o), (3, .ref oL), (4, .ref oD)] → pb_V w.2.2.2 p l e room_1 s m_ #[.ref b0] below meth c H3 bc bs Q (F0 m_ 3538 ls [])) : pb_V w.2.2.2 p l e room_1 s m_ #[.ref b0] below meth c H (bc + 49000) (bs + 228000) Q (F0 m_ 3128 ls []) := by
  obtain ⟨mc, ms, dd, postW, postX, hmc, hms, hdd, hW, h2, h3⟩ := hst
  refine pb_aload_n C dL_law_3128 rfl (lv_at hl 2 rfl) ?_
  refine pb_aload_n C dL_law_3129 rfl (lv_at hl 1 rfl) ?_
  refine pb_iload C dL_law_3130 (lv_at hl 0 rfl) ?_
  refine pb_ic C dL_law_3132 ?_
  refine pb_iadd C dL_law_3133 ?_
  refine pb_sldN C hX (i := (i + 1)) (by omega) dL_law_3134 ?_
  refine pb_aload_n C dL_law_3135 rfl (lv_at hl 1 rfl) ?_
  refine pb_iload C dL_law_3136 (lv_at hl 0 rfl) ?_
  refine pb_ic C dL_law_3138 ?_
  refine pb_iadd C dL_law_3139 ?_
  refine pb_sldN C hX (i := (i + 2)) (by omega) dL_law_3140 ?_
  refine pb_aload_n C dL_law_3141 rfl (lv_at hl 4 rfl) ?_
  refine pb_go_i (bc' := bc + 49000 - mc) (bs' := bs + 228000 - ms) (pb_runSW (rest := []) C hG hN hW (lw_SW q1621 q1622 q50 q1623) hdX0_signedArea rfl hl.1 rfl (Nat.le_of_ble_eq_true rfl) ⟨(Nat.le_of_ble_eq_true rfl), (Nat.le_of_ble_eq_true rfl)⟩ dL_law_3142) (by omega) (by omega) (fun k_ H2 hp2 => ?_)
  obtain ⟨f2, hkr, ⟨fsO, hOo⟩, hM3⟩ := h2 _ _ hp2
  have hG := hG.kept f2
  have hX := hX.kept (f2.2 _ (by have := hX.lt; omega) hb0)
  refine pb_istore C dL_law_3145 hl (by decide) rfl fun ls hl => ?_
  have hl : lv_has ls 9 [(6, .int (iZ (k_))), (5, .int (iZ (((i : Nat) : Int)))), (0, .ref (b0)), (1, .ref (bO)), (2, .ref (o)), (3, .ref (oL)), (4, .ref (oD))] := hl
  refine pb_aload_n C dL_law_3147 rfl (lv_at hl 4 rfl) ?_
  refine pb_aload_n C dL_law_3148 rfl (lv_at hl 2 rfl) ?_
  refine pb_iload C dL_law_3149 (lv_at hl 1 rfl) ?_
  refine pb_ic C dL_law_3151 ?_
  refine pb_iadd C dL_law_3152 ?_
  refine pb_sldN C hX (i := (i + 1)) (by omega) dL_law_3153 ?_
  refine pb_aload_n C dL_law_3154 rfl (lv_at hl 2 rfl) ?_
  refine pb_iload C dL_law_3155 (lv_at hl 1 rfl) ?_
  refine pb_ic C dL_law_3157 ?_
  refine pb_iadd C dL_law_3158 ?_
  refine pb_sldN C hX (i := (i + 2)) (by omega) dL_law_3159 ?_
  refine pb_go_i (bc' := (bc + 49000 - mc)) (bs' := (bs + 228000 - ms)) (pb_runV (rest := []) C hG (hM3) hOo (ci := 2) rfl (lw_V q2087 q2088 q2089 q60 q2090) ⟨rfl, hdX3_signedArea⟩ rfl hl.1 rfl (Nat.le_of_ble_eq_true rfl) ⟨show dd + 1 ≤ 27 from by omega, show 8 + (3 + 11) + 64 * dd ≤ 11162 from by omega⟩ dL_law_3160) (by omega) (by omega) (fun z_ H3 hp_ => ?_)
  obtain ⟨f3, S9, hMW9, hk9, hv9, hb9, hLI⟩ := h3 _ _ _ _ hp2 hp_
  have hG := hG.kept f3
  have hX := hX.kept (f3.2 _ (by have := hX.lt; omega) hb0)
  obtain ⟨fsP, hOp⟩ := hMW9.o
  refine pb_istore C dL_law_3163 hl (by decide) rfl fun ls hl => ?_
  have hl : lv_has ls 9 [(7, .int (iZ (z_))), (6, .int (iZ (k_))), (5, .int (iZ (((i : Nat) : Int)))), (0, .ref (b0)), (1, .ref (bO)), (2, .ref (o)), (3, .ref (oL)), (4, .ref (oD))] := hl
  refine pb_aload_n C dL_law_3165 rfl (lv_at hl 5 rfl) ?_
  refine pb_go_x (bc' := (bc + 49000 - mc)) (bs' := (bs + 228000 - ms)) (pb_runV (rest := []) C hG (met_X3_thrown l o S9 hMW9) hOp (ci := 2) rfl (lw_V q1786 q1787 q1788 q60 q1789) ⟨rfl, hdX3_thrown⟩ rfl hl.1 rfl (Nat.le_of_ble_eq_true rfl) ⟨(Nat.le_of_ble_eq_true rfl), (Nat.le_of_ble_eq_true rfl)⟩ dL_law_3166) (by omega) (by omega) ?_
  refine pb_eq (g2 := F0 m_ 3169 ls [.int (iZ (k_))]) (congrArg (fun z9 => F0 m_ 3169 ls [.int (iZ z9)]) (show (S9.1 0) = k_ from hk9)) ?_
  refine pb_iload C dL_law_3169 (lv_at hl 1 rfl) ?_
  refine pb_icmp_eq C dL_law_3171 (x := k_) (y := k_) (tgt := 3176) (by decide) (by omega) (by omega) (fun c3171_ => ?_) (fun c3171_ => ?_)
  · refine pb_iload C dL_law_3176 (lv_at hl 1 rfl) ?_
    refine pb_if_ne C dL_law_3178 (x := k_) (tgt := 3193) (by decide) (by omega) (fun c3178_ => ?_) (fun c3178_ => ?_)
    · refine pb_goto C dL_law_3193 (tgt := 3538) (by decide) ?_
      exact pb_V.mono (by omega) (by omega) (kk H3 S9 ls hG hX hLI (lv_sub hl [2, 3, 4, 5, 6, 7] rfl))
    · obtain ⟨hzr, g9, hA9⟩ := hv9 c3178_
      refine pb_aload_n C dL_law_3181 rfl (lv_at hl 6 rfl) ?_
      refine pb_ic C dL_law_3182 ?_
      refine pb_lald C hA9.b (i := 0) (v := .long (lZ (z_))) (by omega) (if_pos rfl) dL_law_3183 ?_
      refine pb_iload C dL_law_3184 (lv_at hl 0 rfl) ?_
      refine pb_i2l C dL_law_3186 (x := z_) (by omega) ?_
      refine pb_lcmpE C (x := lZ z_) dL_law_3187 ?_
      refine pb_if_eq C dL_law_3188 (x := 0) (tgt := 3193) (by decide) (by omega) (fun c3188_ => ?_) (fun c3188_ => ?_)
      · refine pb_goto C dL_law_3193 (tgt := 3538) (by decide) ?_
        exact pb_V.mono (by omega) (by omega) (kk H3 S9 ls hG hX hLI (lv_sub hl [2, 3, 4, 5, 6, 7] rfl))
      · exact absurd c3188_ (by decide)
  · exact absurd rfl c3171_

set_option maxHeartbeats 1000000 in
theorem blk_moment {w : pb_W} {p : Program} {l : Launch} {e : Env} {s : State} {m_ : MethodId} {below : List Frame} {meth : Method} {c : Code} {Q : State → Prop} {b0 L : Nat} {xs : Nat → Int32} (C : pb_C w p s m_ meth c #[.ref b0] cL_law 9 RX0 meth.name ret) (hN : pb_Nc s) {H : Heap} (hG : pb_G w s H) (hX : va_X b0 L xs s H) (hb0 : b0 < w.2.2.2) (i : Nat) (hi : i + 6 ≤ L) (hL : L ≤ 144) (bO sl o oL oD : Nat) (S : mS) (hLI : LWI w H bO sl o oL oD S)  (hst : StepL w l yX0_moment cX0_moment 4 [(0, 8, 11, 13)] yX3_moment cX3_moment 6   [.ref bO, .int (iZ (xz xs (i + 1))), .ref oL] [.ref o, .int (iZ (xz xs (i + 1)))] H bO sl o oL oD) (bc bs : Nat) (ls : Array Slot) (hl : lv_has ls 9 [(5, .int (iZ ((i : Nat) : Int))), (0, .ref b0), (1, .ref bO), (2, .ref o), (3, .ref oL), (4, .ref oD)]) (kk : ∀ (H3 : Heap) (S3 : mS) (ls : Array Slot), pb_G w s H3 → va_X b0 L xs s H3 → LWI w H3 bO sl o oL oD S3 → lv_has ls 9 [(5, .int (iZ ((i : Nat) : Int))), (0, .ref b0), (1, .ref bO), (2, .ref o), (3, .ref oL), (4, .ref oD)] → pb_V w.2.2.2 p l e room_1 s m_ #[.ref b0] below meth c H3 bc bs Q (F0 m_ 3538 ls [])) : pb_V w.2.2.2 p l e room_1 s m_ #[.ref b0] below meth c H (bc + 49000) (bs + 228000) Q (F0 m_ 3196 ls []) := by
  obtain ⟨mc, ms, dd, postW, postX, hmc, hms, hdd, hW, h2, h3⟩ := hst
  refine pb_aload_n C dL_law_3196 rfl (lv_at hl 2 rfl) ?_
  refine pb_aload_n C dL_law_3197 rfl (lv_at hl 1 rfl) ?_
  refine pb_iload C dL_law_3198 (lv_at hl 0 rfl) ?_
  refine pb_ic C dL_law_3200 ?_
  refine pb_iadd C dL_law_3201 ?_
  refine pb_sldN C hX (i := (i + 1)) (by omega) dL_law_3202 ?_
  refine pb_aload_n C dL_law_3203 rfl (lv_at hl 4 rfl) ?_
  refine pb_go_i (bc' := bc + 49000 - mc) (bs' := bs + 228000 - ms) (pb_runSW (rest := []) C hG hN hW (lw_SW q1628 q1629 q50 q1630) hdX0_moment rfl hl.1 rfl (Nat.le_of_ble_eq_true rfl) ⟨(Nat.le_of_ble_eq_true rfl), (Nat.le_of_ble_eq_true rfl)⟩ dL_law_3204) (by omega) (by omega) (fun k_ H2 hp2 => ?_)
  obtain ⟨f2, hkr, ⟨fsO, hOo⟩, hM3⟩ := h2 _ _ hp2
  have hG := hG.kept f2
  have hX := hX.kept (f2.2 _ (by have := hX.lt; omega) hb0)
  refine pb_istore C dL_law_3207 hl (by decide) rfl fun ls hl => ?_
  have hl : lv_has ls 9 [(6, .int (iZ (k_))), (5, .int (iZ (((i : Nat) : Int)))), (0, .ref (b0)), (1, .ref (bO)), (2, .ref (o)), (3, .ref (oL)), (4, .ref (oD))] := hl
  refine pb_aload_n C dL_law_3209 rfl (lv_at hl 4 rfl) ?_
  refine pb_aload_n C dL_law_3210 rfl (lv_at hl 2 rfl) ?_
  refine pb_iload C dL_law_3211 (lv_at hl 1 rfl) ?_
  refine pb_ic C dL_law_3213 ?_
  refine pb_iadd C dL_law_3214 ?_
  refine pb_sldN C hX (i := (i + 1)) (by omega) dL_law_3215 ?_
  refine pb_go_l (bc' := (bc + 49000 - mc)) (bs' := (bs + 228000 - ms)) (pb_runV (rest := []) C hG (hM3) hOo (ci := 2) rfl (lw_V q2091 q2092 q2093 q60 q2094) ⟨rfl, hdX3_moment⟩ rfl hl.1 rfl (Nat.le_of_ble_eq_true rfl) ⟨show dd + 1 ≤ 27 from by omega, show 8 + (6 + 11) + 64 * dd ≤ 11162 from by omega⟩ dL_law_3216) (by omega) (by omega) (fun z_ H3 hp_ => ?_)
  obtain ⟨f3, S9, hMW9, hk9, hv9, hLI⟩ := h3 _ _ _ _ hp2 hp_
  have hG := hG.kept f3
  have hX := hX.kept (f3.2 _ (by have := hX.lt; omega) hb0)
  obtain ⟨fsP, hOp⟩ := hMW9.o
  refine pb_lstore C dL_law_3219 hl (by decide) rfl fun ls hl => ?_
  have hl : lv_has ls 9 [(7, .long (lZ (z_))), (6, .int (iZ (k_))), (5, .int (iZ (((i : Nat) : Int)))), (0, .ref (b0)), (1, .ref (bO)), (2, .ref (o)), (3, .ref (oL)), (4, .ref (oD))] := hl
  refine pb_aload_n C dL_law_3221 rfl (lv_at hl 5 rfl) ?_
  refine pb_go_x (bc' := (bc + 49000 - mc)) (bs' := (bs + 228000 - ms)) (pb_runV (rest := []) C hG (met_X3_thrown l o S9 hMW9) hOp (ci := 2) rfl (lw_V q1786 q1787 q1788 q60 q1789) ⟨rfl, hdX3_thrown⟩ rfl hl.1 rfl (Nat.le_of_ble_eq_true rfl) ⟨(Nat.le_of_ble_eq_true rfl), (Nat.le_of_ble_eq_true rfl)⟩ dL_law_3222) (by omega) (by omega) ?_
  refine pb_eq (g2 := F0 m_ 3225 ls [.int (iZ (k_))]) (congrArg (fun z9 => F0 m_ 3225 ls [.int (iZ z9)]) (show (S9.1 0) = k_ from hk9)) ?_
  refine pb_iload C dL_law_3225 (lv_at hl 1 rfl) ?_
  refine pb_icmp_eq C dL_law_3227 (x := k_) (y := k_) (tgt := 3232) (by decide) (by omega) (by omega) (fun c3227_ => ?_) (fun c3227_ => ?_)
  · refine pb_iload C dL_law_3232 (lv_at hl 1 rfl) ?_
    refine pb_if_ne C dL_law_3234 (x := k_) (tgt := 3248) (by decide) (by omega) (fun c3234_ => ?_) (fun c3234_ => ?_)
    · refine pb_goto C dL_law_3248 (tgt := 3538) (by decide) ?_
      exact pb_V.mono (by omega) (by omega) (kk H3 S9 ls hG hX hLI (lv_sub hl [2, 3, 4, 5, 6, 7] rfl))
    · obtain ⟨g9, hA9⟩ := hv9 c3234_
      refine pb_aload_n C dL_law_3237 rfl (lv_at hl 6 rfl) ?_
      refine pb_ic C dL_law_3238 ?_
      refine pb_lald C hA9.b (i := 0) (v := .long (lZ (z_))) (by omega) (if_pos rfl) dL_law_3239 ?_
      refine pb_lload C dL_law_3240 (lv_at hl 0 rfl) ?_
      refine pb_lcmpE C (x := lZ z_) dL_law_3242 ?_
      refine pb_if_eq C dL_law_3243 (x := 0) (tgt := 3248) (by decide) (by omega) (fun c3243_ => ?_) (fun c3243_ => ?_)
      · refine pb_goto C dL_law_3248 (tgt := 3538) (by decide) ?_
        exact pb_V.mono (by omega) (by omega) (kk H3 S9 ls hG hX hLI (lv_sub hl [2, 3, 4, 5, 6, 7] rfl))
      · exact absurd c3243_ (by decide)
  · exact absurd rfl c3227_

set_option maxHeartbeats 1000000 in
theorem blk_momentByCells {w : pb_W} {p : Program} {l : Launch} {e : Env} {s : State} {m_ : MethodId} {below : List Frame} {meth : Method} {c : Code} {Q : State → Prop} {b0 L : Nat} {xs : Nat → Int32} (C : pb_C w p s m_ meth c #[.ref b0] cL_law 9 RX0 meth.name ret) (hN : pb_Nc s) {H : Heap} (hG : pb_G w s H) (hX : va_X b0 L xs s H) (hb0 : b0 < w.2.2.2) (i : Nat) (hi : i + 6 ≤ L) (hL : L ≤ 144) (bO sl o oL oD : Nat) (S : mS) (hLI : LWI w H bO sl o oL oD S)  (hst : StepL w l yX0_momentByCells cX0_momentByCells 4 [(0, 8, 11, 13)] yX3_momentByCells cX3_momentByCells 2   [.ref bO, .int (iZ (xz xs (i + 1))), .ref oL] [.ref o, .int (iZ (xz xs (i + 1)))] H bO sl o oL oD) (bc bs : Nat) (ls : Array Slot) (hl : lv_has ls 9 [(5, .int (iZ ((i : Nat) : Int))), (0, .ref b0), (1, .ref bO), (2, .ref o), (3, .ref oL), (4, .ref oD)]) (kk : ∀ (H3 : Heap) (S3 : mS) (ls : Array Slot), pb_G w s H3 → va_X b0 L xs s H3 → LWI w H3 bO sl o oL oD S3 → lv_has ls 9 [(5, .int (iZ ((i : Nat) : Int))), (0, .ref b0), (1, .ref bO), (2, .ref o), (3, .ref oL), (4, .ref oD)] → pb_V w.2.2.2 p l e room_1 s m_ #[.ref b0] below meth c H3 bc bs Q (F0 m_ 3538 ls [])) : pb_V w.2.2.2 p l e room_1 s m_ #[.ref b0] below meth c H (bc + 49000) (bs + 228000) Q (F0 m_ 3251 ls []) := by
  obtain ⟨mc, ms, dd, postW, postX, hmc, hms, hdd, hW, h2, h3⟩ := hst
  refine pb_aload_n C dL_law_3251 rfl (lv_at hl 2 rfl) ?_
  refine pb_aload_n C dL_law_3252 rfl (lv_at hl 1 rfl) ?_
  refine pb_iload C dL_law_3253 (lv_at hl 0 rfl) ?_
  refine pb_ic C dL_law_3255 ?_
  refine pb_iadd C dL_law_3256 ?_
  refine pb_sldN C hX (i := (i + 1)) (by omega) dL_law_3257 ?_
  refine pb_aload_n C dL_law_3258 rfl (lv_at hl 4 rfl) ?_
  refine pb_go_i (bc' := bc + 49000 - mc) (bs' := bs + 228000 - ms) (pb_runSW (rest := []) C hG hN hW (lw_SW q1649 q1650 q50 q1651) hdX0_momentByCells rfl hl.1 rfl (Nat.le_of_ble_eq_true rfl) ⟨(Nat.le_of_ble_eq_true rfl), (Nat.le_of_ble_eq_true rfl)⟩ dL_law_3259) (by omega) (by omega) (fun k_ H2 hp2 => ?_)
  obtain ⟨f2, hkr, ⟨fsO, hOo⟩, hM3⟩ := h2 _ _ hp2
  have hG := hG.kept f2
  have hX := hX.kept (f2.2 _ (by have := hX.lt; omega) hb0)
  refine pb_istore C dL_law_3262 hl (by decide) rfl fun ls hl => ?_
  have hl : lv_has ls 9 [(6, .int (iZ (k_))), (5, .int (iZ (((i : Nat) : Int)))), (0, .ref (b0)), (1, .ref (bO)), (2, .ref (o)), (3, .ref (oL)), (4, .ref (oD))] := hl
  refine pb_aload_n C dL_law_3264 rfl (lv_at hl 4 rfl) ?_
  refine pb_aload_n C dL_law_3265 rfl (lv_at hl 2 rfl) ?_
  refine pb_iload C dL_law_3266 (lv_at hl 1 rfl) ?_
  refine pb_ic C dL_law_3268 ?_
  refine pb_iadd C dL_law_3269 ?_
  refine pb_sldN C hX (i := (i + 1)) (by omega) dL_law_3270 ?_
  refine pb_go_l (bc' := (bc + 49000 - mc)) (bs' := (bs + 228000 - ms)) (pb_runV (rest := []) C hG (hM3) hOo (ci := 2) rfl (lw_V q2095 q2096 q2097 q60 q2098) ⟨rfl, hdX3_momentByCells⟩ rfl hl.1 rfl (Nat.le_of_ble_eq_true rfl) ⟨show dd + 1 ≤ 27 from by omega, show 8 + (2 + 11) + 64 * dd ≤ 11162 from by omega⟩ dL_law_3271) (by omega) (by omega) (fun z_ H3 hp_ => ?_)
  obtain ⟨f3, S9, hMW9, hk9, hv9, hLI⟩ := h3 _ _ _ _ hp2 hp_
  have hG := hG.kept f3
  have hX := hX.kept (f3.2 _ (by have := hX.lt; omega) hb0)
  obtain ⟨fsP, hOp⟩ := hMW9.o
  refine pb_lstore C dL_law_3274 hl (by decide) rfl fun ls hl => ?_
  have hl : lv_has ls 9 [(7, .long (lZ (z_))), (6, .int (iZ (k_))), (5, .int (iZ (((i : Nat) : Int)))), (0, .ref (b0)), (1, .ref (bO)), (2, .ref (o)), (3, .ref (oL)), (4, .ref (oD))] := hl
  refine pb_aload_n C dL_law_3276 rfl (lv_at hl 5 rfl) ?_
  refine pb_go_x (bc' := (bc + 49000 - mc)) (bs' := (bs + 228000 - ms)) (pb_runV (rest := []) C hG (met_X3_thrown l o S9 hMW9) hOp (ci := 2) rfl (lw_V q1786 q1787 q1788 q60 q1789) ⟨rfl, hdX3_thrown⟩ rfl hl.1 rfl (Nat.le_of_ble_eq_true rfl) ⟨(Nat.le_of_ble_eq_true rfl), (Nat.le_of_ble_eq_true rfl)⟩ dL_law_3277) (by omega) (by omega) ?_
  refine pb_eq (g2 := F0 m_ 3280 ls [.int (iZ (k_))]) (congrArg (fun z9 => F0 m_ 3280 ls [.int (iZ z9)]) (show (S9.1 0) = k_ from hk9)) ?_
  refine pb_iload C dL_law_3280 (lv_at hl 1 rfl) ?_
  refine pb_icmp_eq C dL_law_3282 (x := k_) (y := k_) (tgt := 3287) (by decide) (by omega) (by omega) (fun c3282_ => ?_) (fun c3282_ => ?_)
  · refine pb_iload C dL_law_3287 (lv_at hl 1 rfl) ?_
    refine pb_if_ne C dL_law_3289 (x := k_) (tgt := 3303) (by decide) (by omega) (fun c3289_ => ?_) (fun c3289_ => ?_)
    · refine pb_goto C dL_law_3303 (tgt := 3538) (by decide) ?_
      exact pb_V.mono (by omega) (by omega) (kk H3 S9 ls hG hX hLI (lv_sub hl [2, 3, 4, 5, 6, 7] rfl))
    · obtain ⟨g9, hA9⟩ := hv9 c3289_
      refine pb_aload_n C dL_law_3292 rfl (lv_at hl 6 rfl) ?_
      refine pb_ic C dL_law_3293 ?_
      refine pb_lald C hA9.b (i := 0) (v := .long (lZ (z_))) (by omega) (if_pos rfl) dL_law_3294 ?_
      refine pb_lload C dL_law_3295 (lv_at hl 0 rfl) ?_
      refine pb_lcmpE C (x := lZ z_) dL_law_3297 ?_
      refine pb_if_eq C dL_law_3298 (x := 0) (tgt := 3303) (by decide) (by omega) (fun c3298_ => ?_) (fun c3298_ => ?_)
      · refine pb_goto C dL_law_3303 (tgt := 3538) (by decide) ?_
        exact pb_V.mono (by omega) (by omega) (kk H3 S9 ls hG hX hLI (lv_sub hl [2, 3, 4, 5, 6, 7] rfl))
      · exact absurd c3298_ (by decide)
  · exact absurd rfl c3282_

set_option maxHeartbeats 1000000 in
theorem blk_middleX {w : pb_W} {p : Program} {l : Launch} {e : Env} {s : State} {m_ : MethodId} {below : List Frame} {meth : Method} {c : Code} {Q : State → Prop} {b0 L : Nat} {xs : Nat → Int32} (C : pb_C w p s m_ meth c #[.ref b0] cL_law 9 RX0 meth.name ret) (hN : pb_Nc s) {H : Heap} (hG : pb_G w s H) (hX : va_X b0 L xs s H) (hb0 : b0 < w.2.2.2) (i : Nat) (hi : i + 6 ≤ L) (hL : L ≤ 144) (bO sl o oL oD : Nat) (S : mS) (hLI : LWI w H bO sl o oL oD S)  (hst : StepD w l yX0_middleX cX0_middleX 4 [(0, 8, 11, 13), (0, 8, 14, 163)] yX3_middleX cX3_middleX 5 .double (fun z v => z = .double v ∧ vf_n64 v) [.ref bO, .int (iZ (xz xs (i + 1))), .ref oD] [.ref o, .int (iZ (xz xs (i + 1)))] H bO sl o oL oD) (bc bs : Nat) (ls : Array Slot) (hl : lv_has ls 9 [(5, .int (iZ ((i : Nat) : Int))), (0, .ref b0), (1, .ref bO), (2, .ref o), (3, .ref oL), (4, .ref oD)]) (kk : ∀ (H3 : Heap) (S3 : mS) (ls : Array Slot), pb_G w s H3 → va_X b0 L xs s H3 → LWI w H3 bO sl o oL oD S3 → lv_has ls 9 [(5, .int (iZ ((i : Nat) : Int))), (0, .ref b0), (1, .ref bO), (2, .ref o), (3, .ref oL), (4, .ref oD)] → pb_V w.2.2.2 p l e room_1 s m_ #[.ref b0] below meth c H3 bc bs Q (F0 m_ 3538 ls [])) : pb_V w.2.2.2 p l e room_1 s m_ #[.ref b0] below meth c H (bc + 49000) (bs + 228000) Q (F0 m_ 3306 ls []) := by
  obtain ⟨mc, ms, dd, postW, postX, hmc, hms, hdd, hW, h2, h3⟩ := hst
  refine pb_aload_n C dL_law_3306 rfl (lv_at hl 2 rfl) ?_
  refine pb_aload_n C dL_law_3307 rfl (lv_at hl 1 rfl) ?_
  refine pb_iload C dL_law_3308 (lv_at hl 0 rfl) ?_
  refine pb_ic C dL_law_3310 ?_
  refine pb_iadd C dL_law_3311 ?_
  refine pb_sldN C hX (i := (i + 1)) (by omega) dL_law_3312 ?_
  refine pb_aload C dL_law_3313 (lv_at hl 5 rfl) ?_
  refine pb_go_i (bc' := bc + 49000 - mc) (bs' := bs + 228000 - ms) (pb_runSW (rest := []) C hG hN hW (lw_SW q1660 q1661 q50 q1662) hdX0_middleX rfl hl.1 rfl (Nat.le_of_ble_eq_true rfl) ⟨(Nat.le_of_ble_eq_true rfl), (Nat.le_of_ble_eq_true rfl)⟩ dL_law_3315) (by omega) (by omega) (fun k_ H2 hp2 => ?_)
  obtain ⟨f2, hkr, ⟨fsO, hOo⟩, hM3⟩ := h2 _ _ hp2
  have hG := hG.kept f2
  have hX := hX.kept (f2.2 _ (by have := hX.lt; omega) hb0)
  refine pb_istore C dL_law_3318 hl (by decide) rfl fun ls hl => ?_
  have hl : lv_has ls 9 [(6, .int (iZ (k_))), (5, .int (iZ (((i : Nat) : Int)))), (0, .ref (b0)), (1, .ref (bO)), (2, .ref (o)), (3, .ref (oL)), (4, .ref (oD))] := hl
  refine pb_aload_n C dL_law_3320 rfl (lv_at hl 4 rfl) ?_
  refine pb_aload_n C dL_law_3321 rfl (lv_at hl 2 rfl) ?_
  refine pb_iload C dL_law_3322 (lv_at hl 1 rfl) ?_
  refine pb_ic C dL_law_3324 ?_
  refine pb_iadd C dL_law_3325 ?_
  refine pb_sldN C hX (i := (i + 1)) (by omega) dL_law_3326 ?_
  refine pb_go_q (bc' := (bc + 49000 - mc)) (bs' := (bs + 228000 - ms)) (pb_runV (rest := []) C hG (hM3) hOo (ci := 2) rfl (lw_V q2100 q2101 q2102 q60 q2103) ⟨rfl, hdX3_middleX⟩ rfl hl.1 rfl (Nat.le_of_ble_eq_true rfl) ⟨show dd + 1 ≤ 27 from by omega, show 8 + (5 + 11) + 64 * dd ≤ 11162 from by omega⟩ dL_law_3327) (by omega) (by omega) (fun z_ H3 hp_ => ?_)
  obtain ⟨f3, S9, v9, hMW9, hk9, hdv, hv9, hLI⟩ := h3 _ _ _ _ hp2 hp_
  have hG := hG.kept f3
  have hX := hX.kept (f3.2 _ (by have := hX.lt; omega) hb0)
  obtain ⟨fsP, hOp⟩ := hMW9.o
  obtain ⟨rfl, hn9⟩ := hdv
  refine pb_dstore C dL_law_3330 hl (by decide) rfl fun ls hl => ?_
  have hl : lv_has ls 9 [(7, .double v9), (6, .int (iZ (k_))), (5, .int (iZ (((i : Nat) : Int)))), (0, .ref (b0)), (1, .ref (bO)), (2, .ref (o)), (3, .ref (oL)), (4, .ref (oD))] := hl
  refine pb_aload_n C dL_law_3332 rfl (lv_at hl 5 rfl) ?_
  refine pb_go_x (bc' := (bc + 49000 - mc)) (bs' := (bs + 228000 - ms)) (pb_runV (rest := []) C hG (met_X3_thrown l o S9 hMW9) hOp (ci := 2) rfl (lw_V q1786 q1787 q1788 q60 q1789) ⟨rfl, hdX3_thrown⟩ rfl hl.1 rfl (Nat.le_of_ble_eq_true rfl) ⟨(Nat.le_of_ble_eq_true rfl), (Nat.le_of_ble_eq_true rfl)⟩ dL_law_3333) (by omega) (by omega) ?_
  refine pb_eq (g2 := F0 m_ 3336 ls [.int (iZ (k_))]) (congrArg (fun z9 => F0 m_ 3336 ls [.int (iZ z9)]) (show (S9.1 0) = k_ from hk9)) ?_
  refine pb_iload C dL_law_3336 (lv_at hl 1 rfl) ?_
  refine pb_icmp_eq C dL_law_3338 (x := k_) (y := k_) (tgt := 3343) (by decide) (by omega) (by omega) (fun c3338_ => ?_) (fun c3338_ => ?_)
  · refine pb_iload C dL_law_3343 (lv_at hl 1 rfl) ?_
    refine pb_if_ne C dL_law_3345 (x := k_) (tgt := 3380) (by decide) (by omega) (fun c3345_ => ?_) (fun c3345_ => ?_)
    · refine pb_goto C dL_law_3380 (tgt := 3538) (by decide) ?_
      exact pb_V.mono (by omega) (by omega) (kk H3 S9 ls hG hX hLI (lv_sub hl [2, 3, 4, 5, 6, 7] rfl))
    · obtain ⟨g9, hA9⟩ := hv9 c3345_
      refine pb_aload C dL_law_3348 (lv_at hl 7 rfl) ?_
      refine pb_ic C dL_law_3350 ?_
      refine pb_dald C hA9.b (i := 0) (v := .double v9) (by omega) (if_pos rfl) dL_law_3351 ?_
      refine pb_dload C dL_law_3352 (lv_at hl 0 rfl) ?_
      refine pb_dcmpE C hn9 dL_law_3354 ?_
      refine pb_if_eq C dL_law_3355 (x := 0) (tgt := 3380) (by decide) (by omega) (fun c3355_ => ?_) (fun c3355_ => ?_)
      · refine pb_goto C dL_law_3380 (tgt := 3538) (by decide) ?_
        exact pb_V.mono (by omega) (by omega) (kk H3 S9 ls hG hX hLI (lv_sub hl [2, 3, 4, 5, 6, 7] rfl))
      · exact absurd c3355_ (by decide)
  · exact absurd rfl c3338_

set_option maxHeartbeats 1000000 in
theorem blk_middleY {w : pb_W} {p : Program} {l : Launch} {e : Env} {s : State} {m_ : MethodId} {below : List Frame} {meth : Method} {c : Code} {Q : State → Prop} {b0 L : Nat} {xs : Nat → Int32} (C : pb_C w p s m_ meth c #[.ref b0] cL_law 9 RX0 meth.name ret) (hN : pb_Nc s) {H : Heap} (hG : pb_G w s H) (hX : va_X b0 L xs s H) (hb0 : b0 < w.2.2.2) (i : Nat) (hi : i + 6 ≤ L) (hL : L ≤ 144) (bO sl o oL oD : Nat) (S : mS) (hLI : LWI w H bO sl o oL oD S)  (hst : StepD w l yX0_middleY cX0_middleY 4 [(0, 8, 11, 13), (0, 8, 14, 163)] yX3_middleY cX3_middleY 4 .double (fun z v => z = .double v ∧ vf_n64 v) [.ref bO, .int (iZ (xz xs (i + 1))), .ref oD] [.ref o, .int (iZ (xz xs (i + 1)))] H bO sl o oL oD) (bc bs : Nat) (ls : Array Slot) (hl : lv_has ls 9 [(5, .int (iZ ((i : Nat) : Int))), (0, .ref b0), (1, .ref bO), (2, .ref o), (3, .ref oL), (4, .ref oD)]) (kk : ∀ (H3 : Heap) (S3 : mS) (ls : Array Slot), pb_G w s H3 → va_X b0 L xs s H3 → LWI w H3 bO sl o oL oD S3 → lv_has ls 9 [(5, .int (iZ ((i : Nat) : Int))), (0, .ref b0), (1, .ref bO), (2, .ref o), (3, .ref oL), (4, .ref oD)] → pb_V w.2.2.2 p l e room_1 s m_ #[.ref b0] below meth c H3 bc bs Q (F0 m_ 3538 ls [])) : pb_V w.2.2.2 p l e room_1 s m_ #[.ref b0] below meth c H (bc + 49000) (bs + 228000) Q (F0 m_ 3383 ls []) := by
  obtain ⟨mc, ms, dd, postW, postX, hmc, hms, hdd, hW, h2, h3⟩ := hst
  refine pb_aload_n C dL_law_3383 rfl (lv_at hl 2 rfl) ?_
  refine pb_aload_n C dL_law_3384 rfl (lv_at hl 1 rfl) ?_
  refine pb_iload C dL_law_3385 (lv_at hl 0 rfl) ?_
  refine pb_ic C dL_law_3387 ?_
  refine pb_iadd C dL_law_3388 ?_
  refine pb_sldN C hX (i := (i + 1)) (by omega) dL_law_3389 ?_
  refine pb_aload C dL_law_3390 (lv_at hl 5 rfl) ?_
  refine pb_go_i (bc' := bc + 49000 - mc) (bs' := bs + 228000 - ms) (pb_runSW (rest := []) C hG hN hW (lw_SW q1717 q1718 q50 q1719) hdX0_middleY rfl hl.1 rfl (Nat.le_of_ble_eq_true rfl) ⟨(Nat.le_of_ble_eq_true rfl), (Nat.le_of_ble_eq_true rfl)⟩ dL_law_3392) (by omega) (by omega) (fun k_ H2 hp2 => ?_)
  obtain ⟨f2, hkr, ⟨fsO, hOo⟩, hM3⟩ := h2 _ _ hp2
  have hG := hG.kept f2
  have hX := hX.kept (f2.2 _ (by have := hX.lt; omega) hb0)
  refine pb_istore C dL_law_3395 hl (by decide) rfl fun ls hl => ?_
  have hl : lv_has ls 9 [(6, .int (iZ (k_))), (5, .int (iZ (((i : Nat) : Int)))), (0, .ref (b0)), (1, .ref (bO)), (2, .ref (o)), (3, .ref (oL)), (4, .ref (oD))] := hl
  refine pb_aload_n C dL_law_3397 rfl (lv_at hl 4 rfl) ?_
  refine pb_aload_n C dL_law_3398 rfl (lv_at hl 2 rfl) ?_
  refine pb_iload C dL_law_3399 (lv_at hl 1 rfl) ?_
  refine pb_ic C dL_law_3401 ?_
  refine pb_iadd C dL_law_3402 ?_
  refine pb_sldN C hX (i := (i + 1)) (by omega) dL_law_3403 ?_
  refine pb_go_q (bc' := (bc + 49000 - mc)) (bs' := (bs + 228000 - ms)) (pb_runV (rest := []) C hG (hM3) hOo (ci := 2) rfl (lw_V q2105 q2106 q2107 q60 q2108) ⟨rfl, hdX3_middleY⟩ rfl hl.1 rfl (Nat.le_of_ble_eq_true rfl) ⟨show dd + 1 ≤ 27 from by omega, show 8 + (4 + 11) + 64 * dd ≤ 11162 from by omega⟩ dL_law_3404) (by omega) (by omega) (fun z_ H3 hp_ => ?_)
  obtain ⟨f3, S9, v9, hMW9, hk9, hdv, hv9, hLI⟩ := h3 _ _ _ _ hp2 hp_
  have hG := hG.kept f3
  have hX := hX.kept (f3.2 _ (by have := hX.lt; omega) hb0)
  obtain ⟨fsP, hOp⟩ := hMW9.o
  obtain ⟨rfl, hn9⟩ := hdv
  refine pb_dstore C dL_law_3407 hl (by decide) rfl fun ls hl => ?_
  have hl : lv_has ls 9 [(7, .double v9), (6, .int (iZ (k_))), (5, .int (iZ (((i : Nat) : Int)))), (0, .ref (b0)), (1, .ref (bO)), (2, .ref (o)), (3, .ref (oL)), (4, .ref (oD))] := hl
  refine pb_aload_n C dL_law_3409 rfl (lv_at hl 5 rfl) ?_
  refine pb_go_x (bc' := (bc + 49000 - mc)) (bs' := (bs + 228000 - ms)) (pb_runV (rest := []) C hG (met_X3_thrown l o S9 hMW9) hOp (ci := 2) rfl (lw_V q1786 q1787 q1788 q60 q1789) ⟨rfl, hdX3_thrown⟩ rfl hl.1 rfl (Nat.le_of_ble_eq_true rfl) ⟨(Nat.le_of_ble_eq_true rfl), (Nat.le_of_ble_eq_true rfl)⟩ dL_law_3410) (by omega) (by omega) ?_
  refine pb_eq (g2 := F0 m_ 3413 ls [.int (iZ (k_))]) (congrArg (fun z9 => F0 m_ 3413 ls [.int (iZ z9)]) (show (S9.1 0) = k_ from hk9)) ?_
  refine pb_iload C dL_law_3413 (lv_at hl 1 rfl) ?_
  refine pb_icmp_eq C dL_law_3415 (x := k_) (y := k_) (tgt := 3420) (by decide) (by omega) (by omega) (fun c3415_ => ?_) (fun c3415_ => ?_)
  · refine pb_iload C dL_law_3420 (lv_at hl 1 rfl) ?_
    refine pb_if_ne C dL_law_3422 (x := k_) (tgt := 3457) (by decide) (by omega) (fun c3422_ => ?_) (fun c3422_ => ?_)
    · refine pb_goto C dL_law_3457 (tgt := 3538) (by decide) ?_
      exact pb_V.mono (by omega) (by omega) (kk H3 S9 ls hG hX hLI (lv_sub hl [2, 3, 4, 5, 6, 7] rfl))
    · obtain ⟨g9, hA9⟩ := hv9 c3422_
      refine pb_aload C dL_law_3425 (lv_at hl 7 rfl) ?_
      refine pb_ic C dL_law_3427 ?_
      refine pb_dald C hA9.b (i := 0) (v := .double v9) (by omega) (if_pos rfl) dL_law_3428 ?_
      refine pb_dload C dL_law_3429 (lv_at hl 0 rfl) ?_
      refine pb_dcmpE C hn9 dL_law_3431 ?_
      refine pb_if_eq C dL_law_3432 (x := 0) (tgt := 3457) (by decide) (by omega) (fun c3432_ => ?_) (fun c3432_ => ?_)
      · refine pb_goto C dL_law_3457 (tgt := 3538) (by decide) ?_
        exact pb_V.mono (by omega) (by omega) (kk H3 S9 ls hG hX hLI (lv_sub hl [2, 3, 4, 5, 6, 7] rfl))
      · exact absurd c3432_ (by decide)
  · exact absurd rfl c3415_

set_option maxHeartbeats 1000000 in
theorem blk_fullness {w : pb_W} {p : Program} {l : Launch} {e : Env} {s : State} {m_ : MethodId} {below : List Frame} {meth : Method} {c : Code} {Q : State → Prop} {b0 L : Nat} {xs : Nat → Int32} (C : pb_C w p s m_ meth c #[.ref b0] cL_law 9 RX0 meth.name ret) (hN : pb_Nc s) {H : Heap} (hG : pb_G w s H) (hX : va_X b0 L xs s H) (hb0 : b0 < w.2.2.2) (i : Nat) (hi : i + 6 ≤ L) (hL : L ≤ 144) (bO sl o oL oD : Nat) (S : mS) (hLI : LWI w H bO sl o oL oD S)  (hst : StepD w l yX0_fullness cX0_fullness 4 [(0, 9, 12, 13), (0, 9, 15, 163)] yX3_fullness cX3_fullness 3 .float (fun z v => ∃ f, z = .float f ∧ v = FP.f2d f ∧ vf_n64 v) [.ref bO, .int (iZ (xz xs (i + 1))), .ref oD] [.ref o, .int (iZ (xz xs (i + 1)))] H bO sl o oL oD) (bc bs : Nat) (ls : Array Slot) (hl : lv_has ls 9 [(5, .int (iZ ((i : Nat) : Int))), (0, .ref b0), (1, .ref bO), (2, .ref o), (3, .ref oL), (4, .ref oD)]) (kk : ∀ (H3 : Heap) (S3 : mS) (ls : Array Slot), pb_G w s H3 → va_X b0 L xs s H3 → LWI w H3 bO sl o oL oD S3 → lv_has ls 9 [(5, .int (iZ ((i : Nat) : Int))), (0, .ref b0), (1, .ref bO), (2, .ref o), (3, .ref oL), (4, .ref oD)] → pb_V w.2.2.2 p l e room_1 s m_ #[.ref b0] below meth c H3 bc bs Q (F0 m_ 3538 ls [])) : pb_V w.2.2.2 p l e room_1 s m_ #[.ref b0] below meth c H (bc + 49000) (bs + 228000) Q (F0 m_ 3460 ls []) := by
  obtain ⟨mc, ms, dd, postW, postX, hmc, hms, hdd, hW, h2, h3⟩ := hst
  refine pb_aload_n C dL_law_3460 rfl (lv_at hl 2 rfl) ?_
  refine pb_aload_n C dL_law_3461 rfl (lv_at hl 1 rfl) ?_
  refine pb_iload C dL_law_3462 (lv_at hl 0 rfl) ?_
  refine pb_ic C dL_law_3464 ?_
  refine pb_iadd C dL_law_3465 ?_
  refine pb_sldN C hX (i := (i + 1)) (by omega) dL_law_3466 ?_
  refine pb_aload C dL_law_3467 (lv_at hl 5 rfl) ?_
  refine pb_go_i (bc' := bc + 49000 - mc) (bs' := bs + 228000 - ms) (pb_runSW (rest := []) C hG hN hW (lw_SW q1724 q1725 q50 q1726) hdX0_fullness rfl hl.1 rfl (Nat.le_of_ble_eq_true rfl) ⟨(Nat.le_of_ble_eq_true rfl), (Nat.le_of_ble_eq_true rfl)⟩ dL_law_3469) (by omega) (by omega) (fun k_ H2 hp2 => ?_)
  obtain ⟨f2, hkr, ⟨fsO, hOo⟩, hM3⟩ := h2 _ _ hp2
  have hG := hG.kept f2
  have hX := hX.kept (f2.2 _ (by have := hX.lt; omega) hb0)
  refine pb_istore C dL_law_3472 hl (by decide) rfl fun ls hl => ?_
  have hl : lv_has ls 9 [(6, .int (iZ (k_))), (5, .int (iZ (((i : Nat) : Int)))), (0, .ref (b0)), (1, .ref (bO)), (2, .ref (o)), (3, .ref (oL)), (4, .ref (oD))] := hl
  refine pb_aload_n C dL_law_3474 rfl (lv_at hl 4 rfl) ?_
  refine pb_aload_n C dL_law_3475 rfl (lv_at hl 2 rfl) ?_
  refine pb_iload C dL_law_3476 (lv_at hl 1 rfl) ?_
  refine pb_ic C dL_law_3478 ?_
  refine pb_iadd C dL_law_3479 ?_
  refine pb_sldN C hX (i := (i + 1)) (by omega) dL_law_3480 ?_
  refine pb_go_q (bc' := (bc + 49000 - mc)) (bs' := (bs + 228000 - ms)) (pb_runV (rest := []) C hG (hM3) hOo (ci := 2) rfl (lw_V q2109 q2110 q2111 q60 q2112) ⟨rfl, hdX3_fullness⟩ rfl hl.1 rfl (Nat.le_of_ble_eq_true rfl) ⟨show dd + 1 ≤ 27 from by omega, show 8 + (3 + 11) + 64 * dd ≤ 11162 from by omega⟩ dL_law_3481) (by omega) (by omega) (fun z_ H3 hp_ => ?_)
  obtain ⟨f3, S9, v9, hMW9, hk9, hdv, hv9, hLI⟩ := h3 _ _ _ _ hp2 hp_
  have hG := hG.kept f3
  have hX := hX.kept (f3.2 _ (by have := hX.lt; omega) hb0)
  obtain ⟨fsP, hOp⟩ := hMW9.o
  obtain ⟨f9, rfl, rfl, hn9⟩ := hdv
  refine pb_fstore C dL_law_3484 hl (by decide) rfl fun ls hl => ?_
  have hl : lv_has ls 9 [(7, .float f9), (6, .int (iZ (k_))), (5, .int (iZ (((i : Nat) : Int)))), (0, .ref (b0)), (1, .ref (bO)), (2, .ref (o)), (3, .ref (oL)), (4, .ref (oD))] := hl
  refine pb_aload_n C dL_law_3486 rfl (lv_at hl 5 rfl) ?_
  refine pb_go_x (bc' := (bc + 49000 - mc)) (bs' := (bs + 228000 - ms)) (pb_runV (rest := []) C hG (met_X3_thrown l o S9 hMW9) hOp (ci := 2) rfl (lw_V q1786 q1787 q1788 q60 q1789) ⟨rfl, hdX3_thrown⟩ rfl hl.1 rfl (Nat.le_of_ble_eq_true rfl) ⟨(Nat.le_of_ble_eq_true rfl), (Nat.le_of_ble_eq_true rfl)⟩ dL_law_3487) (by omega) (by omega) ?_
  refine pb_eq (g2 := F0 m_ 3490 ls [.int (iZ (k_))]) (congrArg (fun z9 => F0 m_ 3490 ls [.int (iZ z9)]) (show (S9.1 0) = k_ from hk9)) ?_
  refine pb_iload C dL_law_3490 (lv_at hl 1 rfl) ?_
  refine pb_icmp_eq C dL_law_3492 (x := k_) (y := k_) (tgt := 3497) (by decide) (by omega) (by omega) (fun c3492_ => ?_) (fun c3492_ => ?_)
  · refine pb_iload C dL_law_3497 (lv_at hl 1 rfl) ?_
    refine pb_if_ne C dL_law_3499 (x := k_) (tgt := 3535) (by decide) (by omega) (fun c3499_ => ?_) (fun c3499_ => ?_)
    · refine pb_goto C dL_law_3535 (tgt := 3538) (by decide) ?_
      exact pb_V.mono (by omega) (by omega) (kk H3 S9 ls hG hX hLI (lv_sub hl [2, 3, 4, 5, 6, 7] rfl))
    · obtain ⟨g9, hA9⟩ := hv9 c3499_
      refine pb_aload C dL_law_3502 (lv_at hl 7 rfl) ?_
      refine pb_ic C dL_law_3504 ?_
      refine pb_dald C hA9.b (i := 0) (v := .double (FP.f2d f9)) (by omega) (if_pos rfl) dL_law_3505 ?_
      refine pb_fload C dL_law_3506 (lv_at hl 0 rfl) ?_
      refine pb_f2dN C hn9 dL_law_3508 ?_
      refine pb_dcmpE C hn9 dL_law_3509 ?_
      refine pb_if_eq C dL_law_3510 (x := 0) (tgt := 3535) (by decide) (by omega) (fun c3510_ => ?_) (fun c3510_ => ?_)
      · refine pb_goto C dL_law_3535 (tgt := 3538) (by decide) ?_
        exact pb_V.mono (by omega) (by omega) (kk H3 S9 ls hG hX hLI (lv_sub hl [2, 3, 4, 5, 6, 7] rfl))
      · exact absurd c3510_ (by decide)
  · exact absurd rfl c3492_

