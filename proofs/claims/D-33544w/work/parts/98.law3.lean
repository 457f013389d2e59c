/-! the law's cases -/
section LAWCASES
variable {p : Program} {l : Launch} {e : Env} {R : Room} {s : State} {m : MethodId} {args : Array Value} {below : List Frame} {meth : Method} {c : Code} {H : Heap} {locs : List Loc} {cells slots : Nat} {Q : State → Prop} {ls : Array Slot} {nm : String} {ret : Option FieldType} {g : GT} {a b o i L : Nat} {xs : Nat → Int32}
set_option maxRecDepth 100000 in
set_option maxHeartbeats 4000000 in
theorem lc_0 (X : Cx p g s m args meth c cL_law 9 (yL nm) ret) (hl0 : l.stackTraces = false) (hB : LB g o b L xs s) (hR : LR R) (hi : i + 4 < L) (hL : ∀ q ∈ locs, gLo g ≤ q.base) (hl : lv_has ls 9 [(0, .ref b), (1, .ref a), (2, .ref o), (3, .ref (o + 10)), (4, .int (nI i))]) (hI : LI g a o H) (hc : cells + 6300 ≤ R.cells) (hsl : slots + 50100 ≤ R.slots)
    (kk : ∀ (H1 : Heap) (locs1 : List Loc) (ls1 : Array Slot), (∀ q ∈ locs1, gLo g ≤ q.base) → lv_has ls1 9 [(0, .ref b), (1, .ref a), (2, .ref o), (3, .ref (o + 10)), (4, .int (nI i))] → LI g a o H1 → W p l e R s m args below meth c H1 locs1 (cells + 6300) (slots + 50100) Q (F0 m 2951 ls1 [])) : W p l e R s m args below meth c H locs cells slots Q (F0 m 272 ls []) := by
  have hx := X.1
  have hb := X.2.1
  have hKV := X.2.2.2.2.2.2.2.1.1
  have hlo := hB.1
  have hL120 := hB.2.2.2.2
  obtain ⟨⟨S, n, st, ln, hf, hs, hsk, hW⟩, f, hu⟩ := hI
  obtain ⟨hN, hn, hRO, hst, hs6, hln, hl6, hF, hG⟩ := hsk.mi
  refine lv_aload_n hx hb dL_law_272 rfl (lv_at hl 1 rfl) ?_
  refine lv_aload_n hx hb dL_law_273 rfl (lv_at hl 0 rfl) ?_
  refine lv_iload hx hb dL_law_274 (lv_at hl 4 rfl) ?_
  refine lv_iconst (v := nI 1) hx hb dL_law_276 (by decide) ?_
  refine n_iadd X dL_law_277 ?_
  refine r_xld X hB hL (by omega) dL_law_278 ?_
  refine lv_aload_n hx hb dL_law_279 rfl (lv_at hl 0 rfl) ?_
  refine lv_iload hx hb dL_law_280 (lv_at hl 4 rfl) ?_
  refine lv_iconst (v := nI 2) hx hb dL_law_282 (by decide) ?_
  refine n_iadd X dL_law_283 ?_
  refine r_xld X hB hL (by omega) dL_law_284 ?_
  refine lv_aload_n hx hb dL_law_285 rfl (lv_at hl 0 rfl) ?_
  refine lv_iload hx hb dL_law_286 (lv_at hl 4 rfl) ?_
  refine lv_iconst (v := nI 3) hx hb dL_law_288 (by decide) ?_
  refine n_iadd X dL_law_289 ?_
  refine r_xld X hB hL (by omega) dL_law_290 ?_
  refine lv_aload_n hx hb dL_law_291 rfl (lv_at hl 0 rfl) ?_
  refine lv_iload hx hb dL_law_292 (lv_at hl 4 rfl) ?_
  refine lv_iconst (v := nI 4) hx hb dL_law_294 (by decide) ?_
  refine n_iadd X dL_law_295 ?_
  refine r_xld X hB hL (by omega) dL_law_296 ?_
  refine lv_aload_n hx hb dL_law_297 rfl (lv_at hl 3 rfl) ?_
  refine Gr.callW (ct_X0_add l g (FF o) S n st ln hf hs a (xs (i + 1)) (xs (i + 2)) (xs (i + 3)) (xs (i + 4)) (o + 10) hl0 (FF_u o) (FF_lo hlo)) X hL hl sw_X0_add q1307 rfl rfl (Nat.le_of_ble_eq_true rfl) dL_law_298 ⟨by have := hR.1; omega, by have := hR.2; omega⟩ (by omega) (by omega) ⟨hsk, _, hu⟩ (fun r H locs hL hp => ?_)
  obtain ⟨x, hxs, hr, hx3, hnum, ⟨f, hu⟩, hX, hC⟩ := WP.ex hp
  have hW := hW.keepC hC (fun q h1 h2 y => y.elim (fun y => y ⟨h1, by omega⟩) (fun y => by have y : q = o + 10 := y; omega))
  obtain ⟨v0, hv⟩ : ∃ v9, x.2.1 = some (.int v9) := by rw [hxs]; unfold s_add; (repeat' split) <;> exact ⟨_, rfl⟩
  have hq : x.1 = 0 → Al g (o + 10) 1 (fun _ => v0.toInt64) H := fun h => by obtain ⟨n9, e1, e2⟩ := hnum h; rw [hv] at e1; cases e1; exact e2
  subst hr
  refine lv_istore (lv' := [(5, .int _), (0, .ref _), (1, .ref _), (2, .ref _), (3, .ref _), (4, .int _)]) hx hb dL_law_301 hl (by decide) rfl (fun ls hl => ?_)
  refine lv_aload_n hx hb dL_law_303 rfl (lv_at hl 3 rfl) ?_
  refine lv_aload_n hx hb dL_law_304 rfl (lv_at hl 1 rfl) ?_
  refine lv_iload hx hb dL_law_305 (lv_at hl 5 rfl) ?_
  refine lv_iconst (v := nI 1) hx hb dL_law_307 (by decide) ?_
  refine n_iadd X dL_law_308 ?_
  refine r_xld X hB hL (by omega) dL_law_309 ?_
  refine lv_aload_n hx hb dL_law_310 rfl (lv_at hl 1 rfl) ?_
  refine lv_iload hx hb dL_law_311 (lv_at hl 5 rfl) ?_
  refine lv_iconst (v := nI 2) hx hb dL_law_313 (by decide) ?_
  refine n_iadd X dL_law_314 ?_
  refine r_xld X hB hL (by omega) dL_law_315 ?_
  refine lv_aload_n hx hb dL_law_316 rfl (lv_at hl 1 rfl) ?_
  refine lv_iload hx hb dL_law_317 (lv_at hl 5 rfl) ?_
  refine lv_iconst (v := nI 3) hx hb dL_law_319 (by decide) ?_
  refine n_iadd X dL_law_320 ?_
  refine r_xld X hB hL (by omega) dL_law_321 ?_
  refine lv_aload_n hx hb dL_law_322 rfl (lv_at hl 1 rfl) ?_
  refine lv_iload hx hb dL_law_323 (lv_at hl 5 rfl) ?_
  refine lv_iconst (v := nI 4) hx hb dL_law_325 (by decide) ?_
  refine n_iadd X dL_law_326 ?_
  refine r_xld X hB hL (by omega) dL_law_327 ?_
  refine Gr.callV (ct_X5_add l g o n st S (xs (i + 1)) (xs (i + 2)) (xs (i + 3)) (xs (i + 4)) hN hn hst hs6) X hL hl vb_X5_add q1875 (hW.2.1.recv hKV rfl) rfl rfl (Nat.le_of_ble_eq_true rfl) dL_law_328 ⟨by have := hR.1; omega, by have := hR.2; omega⟩ (by omega) (by omega) hW (fun r H locs hL hp => ?_)
  obtain ⟨S1, hAP, hW, hO⟩ := hp
  obtain ⟨hSc, ht, hr⟩ : AP S1 x r := by rw [hxs]; exact hAP
  have hX := (hX.off hO hKV.gE hlo).sc hSc
  have hu := hu.at (hO.2 _ (Or.inr (by omega)))
  have hq : x.1 = 0 → Al g (o + 10) 1 (fun _ => v0.toInt64) H := fun h => (hq h).at (hO.2 _ (Or.inr (by omega)))
  rw [hv] at hr
  subst hr
  refine lv_istore (lv' := [(6, .int _), (5, .int _), (0, .ref _), (1, .ref _), (2, .ref _), (3, .ref _), (4, .int _)]) hx hb dL_law_331 hl (by decide) rfl (fun ls hl => ?_)
  refine lv_aload_n hx hb dL_law_333 rfl (lv_at hl 4 rfl) ?_
  refine Gr.callV (ct_X5_thrown l g o S1) X hL hl vb_X5_thrown q1871 (hW.2.1.recv hKV rfl) rfl rfl (Nat.le_of_ble_eq_true rfl) dL_law_334 ⟨by have := hR.1; omega, by have := hR.2; omega⟩ (by omega) (by omega) hW (fun r H9 locs hL hp => ?_)
  obtain ⟨rfl, e9⟩ := hp
  cases e9
  refine lv_iload hx hb dL_law_337 (lv_at hl 1 rfl) ?_
  refine lv_icmp_eq (tgt := 344) hx hb dL_law_339 (by decide) (fun c_339 => ?_) (fun c_339 => ?_)
  ·
    refine lv_iload hx hb dL_law_344 (lv_at hl 1 rfl) ?_
    refine n_ifne (tgt := 361) X dL_law_346 (by decide) (by omega) (fun c_346 => ?_) (fun c_346 => ?_)
    ·
      refine lv_goto (tgt := 2951) hx hb dL_law_361 (by decide) ?_
      exact W.widen (by omega) (by omega) (kk _ _ _ hL (lv_sub hl [2, 3, 4, 5, 6] rfl) (LI.mk hX hW hu))
    ·
      have hu := hq c_346
      refine lv_aload_n hx hb dL_law_349 rfl (lv_at hl 5 rfl) ?_
      refine lv_iconst (v := nI 0) hx hb dL_law_350 (by decide) ?_
      refine r_lld X hu 0 rfl (by decide) (by decide) dL_law_351 ?_
      refine lv_iload hx hb dL_law_352 (lv_at hl 0 rfl) ?_
      refine lv_i2l hx hb dL_law_354 rfl ?_
      refine r_lcmp X dL_law_355 ?_
      refine lv_if_eq (tgt := 361) hx hb dL_law_356 (by decide) (fun c_356 => ?_) (fun c_356 => ?_)
      ·
        refine lv_goto (tgt := 2951) hx hb dL_law_361 (by decide) ?_
        exact W.widen (by omega) (by omega) (kk _ _ _ hL (lv_sub hl [2, 3, 4, 5, 6] rfl) (LI.mk hX hW hu))
      ·
        exact (c_356 (lcI_0.mpr rfl)).elim
  ·
    exact absurd ht c_339

set_option maxRecDepth 100000 in
set_option maxHeartbeats 4000000 in
theorem lc_1 (X : Cx p g s m args meth c cL_law 9 (yL nm) ret) (hl0 : l.stackTraces = false) (hB : LB g o b L xs s) (hR : LR R) (hi : i + 4 < L) (hL : ∀ q ∈ locs, gLo g ≤ q.base) (hl : lv_has ls 9 [(0, .ref b), (1, .ref a), (2, .ref o), (3, .ref (o + 10)), (4, .int (nI i))]) (hI : LI g a o H) (hc : cells + 6300 ≤ R.cells) (hsl : slots + 50100 ≤ R.slots)
    (kk : ∀ (H1 : Heap) (locs1 : List Loc) (ls1 : Array Slot), (∀ q ∈ locs1, gLo g ≤ q.base) → lv_has ls1 9 [(0, .ref b), (1, .ref a), (2, .ref o), (3, .ref (o + 10)), (4, .int (nI i))] → LI g a o H1 → W p l e R s m args below meth c H1 locs1 (cells + 6300) (slots + 50100) Q (F0 m 2951 ls1 [])) : W p l e R s m args below meth c H locs cells slots Q (F0 m 364 ls []) := by
  have hx := X.1
  have hb := X.2.1
  have hKV := X.2.2.2.2.2.2.2.1.1
  have hlo := hB.1
  have hL120 := hB.2.2.2.2
  obtain ⟨⟨S, n, st, ln, hf, hs, hsk, hW⟩, f, hu⟩ := hI
  obtain ⟨hN, hn, hRO, hst, hs6, hln, hl6, hF, hG⟩ := hsk.mi
  refine lv_aload_n hx hb dL_law_364 rfl (lv_at hl 1 rfl) ?_
  refine lv_aload_n hx hb dL_law_365 rfl (lv_at hl 0 rfl) ?_
  refine lv_iload hx hb dL_law_366 (lv_at hl 4 rfl) ?_
  refine lv_iconst (v := nI 1) hx hb dL_law_368 (by decide) ?_
  refine n_iadd X dL_law_369 ?_
  refine r_xld X hB hL (by omega) dL_law_370 ?_
  refine lv_aload_n hx hb dL_law_371 rfl (lv_at hl 3 rfl) ?_
  refine Gr.callW (ct_X0_remove l g (FF o) S n st ln hf hs a (xs (i + 1)) (o + 10) hl0 (FF_u o) (FF_lo hlo)) X hL hl sw_X0_remove q1365 rfl rfl (Nat.le_of_ble_eq_true rfl) dL_law_372 ⟨by have := hR.1; omega, by have := hR.2; omega⟩ (by omega) (by omega) ⟨hsk, _, hu⟩ (fun r H locs hL hp => ?_)
  obtain ⟨x, hxs, hr, hx3, hnum, ⟨f, hu⟩, hX, hC⟩ := WP.ex hp
  have hW := hW.keepC hC (fun q h1 h2 y => y.elim (fun y => y ⟨h1, by omega⟩) (fun y => by have y : q = o + 10 := y; omega))
  obtain ⟨v0, hv⟩ : ∃ v9, x.2.1 = some (.int v9) := by rw [hxs]; unfold s_remove; (repeat' split) <;> exact ⟨_, rfl⟩
  have hq : x.1 = 0 → Al g (o + 10) 1 (fun _ => v0.toInt64) H := fun h => by obtain ⟨n9, e1, e2⟩ := hnum h; rw [hv] at e1; cases e1; exact e2
  subst hr
  refine lv_istore (lv' := [(5, .int _), (0, .ref _), (1, .ref _), (2, .ref _), (3, .ref _), (4, .int _)]) hx hb dL_law_375 hl (by decide) rfl (fun ls hl => ?_)
  refine lv_aload_n hx hb dL_law_377 rfl (lv_at hl 3 rfl) ?_
  refine lv_aload_n hx hb dL_law_378 rfl (lv_at hl 1 rfl) ?_
  refine lv_iload hx hb dL_law_379 (lv_at hl 5 rfl) ?_
  refine lv_iconst (v := nI 1) hx hb dL_law_381 (by decide) ?_
  refine n_iadd X dL_law_382 ?_
  refine r_xld X hB hL (by omega) dL_law_383 ?_
  refine Gr.callV (ct_X5_remove l g o n st S (xs (i + 1)) hN hn hst hs6) X hL hl vb_X5_remove q1896 (hW.2.1.recv hKV rfl) rfl rfl (Nat.le_of_ble_eq_true rfl) dL_law_384 ⟨by have := hR.1; omega, by have := hR.2; omega⟩ (by omega) (by omega) hW (fun r H locs hL hp => ?_)
  obtain ⟨S1, hAP, hW, hO⟩ := hp
  obtain ⟨hSc, ht, hr⟩ : AP S1 x r := by rw [hxs]; exact hAP
  have hX := (hX.off hO hKV.gE hlo).sc hSc
  have hu := hu.at (hO.2 _ (Or.inr (by omega)))
  have hq : x.1 = 0 → Al g (o + 10) 1 (fun _ => v0.toInt64) H := fun h => (hq h).at (hO.2 _ (Or.inr (by omega)))
  rw [hv] at hr
  subst hr
  refine lv_istore (lv' := [(6, .int _), (5, .int _), (0, .ref _), (1, .ref _), (2, .ref _), (3, .ref _), (4, .int _)]) hx hb dL_law_387 hl (by decide) rfl (fun ls hl => ?_)
  refine lv_aload_n hx hb dL_law_389 rfl (lv_at hl 4 rfl) ?_
  refine Gr.callV (ct_X5_thrown l g o S1) X hL hl vb_X5_thrown q1871 (hW.2.1.recv hKV rfl) rfl rfl (Nat.le_of_ble_eq_true rfl) dL_law_390 ⟨by have := hR.1; omega, by have := hR.2; omega⟩ (by omega) (by omega) hW (fun r H9 locs hL hp => ?_)
  obtain ⟨rfl, e9⟩ := hp
  cases e9
  refine lv_iload hx hb dL_law_393 (lv_at hl 1 rfl) ?_
  refine lv_icmp_eq (tgt := 400) hx hb dL_law_395 (by decide) (fun c_395 => ?_) (fun c_395 => ?_)
  ·
    refine lv_iload hx hb dL_law_400 (lv_at hl 1 rfl) ?_
    refine n_ifne (tgt := 417) X dL_law_402 (by decide) (by omega) (fun c_402 => ?_) (fun c_402 => ?_)
    ·
      refine lv_goto (tgt := 2951) hx hb dL_law_417 (by decide) ?_
      exact W.widen (by omega) (by omega) (kk _ _ _ hL (lv_sub hl [2, 3, 4, 5, 6] rfl) (LI.mk hX hW hu))
    ·
      have hu := hq c_402
      refine lv_aload_n hx hb dL_law_405 rfl (lv_at hl 5 rfl) ?_
      refine lv_iconst (v := nI 0) hx hb dL_law_406 (by decide) ?_
      refine r_lld X hu 0 rfl (by decide) (by decide) dL_law_407 ?_
      refine lv_iload hx hb dL_law_408 (lv_at hl 0 rfl) ?_
      refine lv_i2l hx hb dL_law_410 rfl ?_
      refine r_lcmp X dL_law_411 ?_
      refine lv_if_eq (tgt := 417) hx hb dL_law_412 (by decide) (fun c_412 => ?_) (fun c_412 => ?_)
      ·
        refine lv_goto (tgt := 2951) hx hb dL_law_417 (by decide) ?_
        exact W.widen (by omega) (by omega) (kk _ _ _ hL (lv_sub hl [2, 3, 4, 5, 6] rfl) (LI.mk hX hW hu))
      ·
        exact (c_412 (lcI_0.mpr rfl)).elim
  ·
    exact absurd ht c_395

set_option maxRecDepth 100000 in
set_option maxHeartbeats 4000000 in
theorem lc_2 (X : Cx p g s m args meth c cL_law 9 (yL nm) ret) (hl0 : l.stackTraces = false) (hB : LB g o b L xs s) (hR : LR R) (hi : i + 4 < L) (hL : ∀ q ∈ locs, gLo g ≤ q.base) (hl : lv_has ls 9 [(0, .ref b), (1, .ref a), (2, .ref o), (3, .ref (o + 10)), (4, .int (nI i))]) (hI : LI g a o H) (hc : cells + 6300 ≤ R.cells) (hsl : slots + 50100 ≤ R.slots)
    (kk : ∀ (H1 : Heap) (locs1 : List Loc) (ls1 : Array Slot), (∀ q ∈ locs1, gLo g ≤ q.base) → lv_has ls1 9 [(0, .ref b), (1, .ref a), (2, .ref o), (3, .ref (o + 10)), (4, .int (nI i))] → LI g a o H1 → W p l e R s m args below meth c H1 locs1 (cells + 6300) (slots + 50100) Q (F0 m 2951 ls1 [])) : W p l e R s m args below meth c H locs cells slots Q (F0 m 420 ls []) := by
  have hx := X.1
  have hb := X.2.1
  have hKV := X.2.2.2.2.2.2.2.1.1
  have hlo := hB.1
  have hL120 := hB.2.2.2.2
  obtain ⟨⟨S, n, st, ln, hf, hs, hsk, hW⟩, f, hu⟩ := hI
  obtain ⟨hN, hn, hRO, hst, hs6, hln, hl6, hF, hG⟩ := hsk.mi
  refine lv_aload_n hx hb dL_law_420 rfl (lv_at hl 1 rfl) ?_
  refine lv_aload_n hx hb dL_law_421 rfl (lv_at hl 0 rfl) ?_
  refine lv_iload hx hb dL_law_422 (lv_at hl 4 rfl) ?_
  refine lv_iconst (v := nI 1) hx hb dL_law_424 (by decide) ?_
  refine n_iadd X dL_law_425 ?_
  refine r_xld X hB hL (by omega) dL_law_426 ?_
  refine lv_aload_n hx hb dL_law_427 rfl (lv_at hl 0 rfl) ?_
  refine lv_iload hx hb dL_law_428 (lv_at hl 4 rfl) ?_
  refine lv_iconst (v := nI 2) hx hb dL_law_430 (by decide) ?_
  refine n_iadd X dL_law_431 ?_
  refine r_xld X hB hL (by omega) dL_law_432 ?_
  refine lv_aload_n hx hb dL_law_433 rfl (lv_at hl 0 rfl) ?_
  refine lv_iload hx hb dL_law_434 (lv_at hl 4 rfl) ?_
  refine lv_iconst (v := nI 3) hx hb dL_law_436 (by decide) ?_
  refine n_iadd X dL_law_437 ?_
  refine r_xld X hB hL (by omega) dL_law_438 ?_
  refine lv_aload_n hx hb dL_law_439 rfl (lv_at hl 3 rfl) ?_
  refine Gr.callW (ct_X0_change l g (FF o) S n st ln hf hs a (xs (i + 1)) (xs (i + 2)) (xs (i + 3)) (o + 10) hl0 (FF_u o) (FF_lo hlo)) X hL hl sw_X0_change q1396 rfl rfl (Nat.le_of_ble_eq_true rfl) dL_law_440 ⟨by have := hR.1; omega, by have := hR.2; omega⟩ (by omega) (by omega) ⟨hsk, _, hu⟩ (fun r H locs hL hp => ?_)
  obtain ⟨x, hxs, hr, hx3, hnum, ⟨f, hu⟩, hX, hC⟩ := WP.ex hp
  have hW := hW.keepC hC (fun q h1 h2 y => y.elim (fun y => y ⟨h1, by omega⟩) (fun y => by have y : q = o + 10 := y; omega))
  obtain ⟨v0, hv⟩ : ∃ v9, x.2.1 = some (.int v9) := by rw [hxs]; unfold s_change; (repeat' split) <;> exact ⟨_, rfl⟩
  have hq : x.1 = 0 → Al g (o + 10) 1 (fun _ => v0.toInt64) H := fun h => by obtain ⟨n9, e1, e2⟩ := hnum h; rw [hv] at e1; cases e1; exact e2
  subst hr
  refine lv_istore (lv' := [(5, .int _), (0, .ref _), (1, .ref _), (2, .ref _), (3, .ref _), (4, .int _)]) hx hb dL_law_443 hl (by decide) rfl (fun ls hl => ?_)
  refine lv_aload_n hx hb dL_law_445 rfl (lv_at hl 3 rfl) ?_
  refine lv_aload_n hx hb dL_law_446 rfl (lv_at hl 1 rfl) ?_
  refine lv_iload hx hb dL_law_447 (lv_at hl 5 rfl) ?_
  refine lv_iconst (v := nI 1) hx hb dL_law_449 (by decide) ?_
  refine n_iadd X dL_law_450 ?_
  refine r_xld X hB hL (by omega) dL_law_451 ?_
  refine lv_aload_n hx hb dL_law_452 rfl (lv_at hl 1 rfl) ?_
  refine lv_iload hx hb dL_law_453 (lv_at hl 5 rfl) ?_
  refine lv_iconst (v := nI 2) hx hb dL_law_455 (by decide) ?_
  refine n_iadd X dL_law_456 ?_
  refine r_xld X hB hL (by omega) dL_law_457 ?_
  refine lv_aload_n hx hb dL_law_458 rfl (lv_at hl 1 rfl) ?_
  refine lv_iload hx hb dL_law_459 (lv_at hl 5 rfl) ?_
  refine lv_iconst (v := nI 3) hx hb dL_law_461 (by decide) ?_
  refine n_iadd X dL_law_462 ?_
  refine r_xld X hB hL (by omega) dL_law_463 ?_
  refine Gr.callV (ct_X5_change l g o n st S (xs (i + 1)) (xs (i + 2)) (xs (i + 3)) hN hn hst hs6) X hL hl vb_X5_change q1912 (hW.2.1.recv hKV rfl) rfl rfl (Nat.le_of_ble_eq_true rfl) dL_law_464 ⟨by have := hR.1; omega, by have := hR.2; omega⟩ (by omega) (by omega) hW (fun r H locs hL hp => ?_)
  obtain ⟨S1, hAP, hW, hO⟩ := hp
  obtain ⟨hSc, ht, hr⟩ : AP S1 x r := by rw [hxs]; exact hAP
  have hX := (hX.off hO hKV.gE hlo).sc hSc
  have hu := hu.at (hO.2 _ (Or.inr (by omega)))
  have hq : x.1 = 0 → Al g (o + 10) 1 (fun _ => v0.toInt64) H := fun h => (hq h).at (hO.2 _ (Or.inr (by omega)))
  rw [hv] at hr
  subst hr
  refine lv_istore (lv' := [(6, .int _), (5, .int _), (0, .ref _), (1, .ref _), (2, .ref _), (3, .ref _), (4, .int _)]) hx hb dL_law_467 hl (by decide) rfl (fun ls hl => ?_)
  refine lv_aload_n hx hb dL_law_469 rfl (lv_at hl 4 rfl) ?_
  refine Gr.callV (ct_X5_thrown l g o S1) X hL hl vb_X5_thrown q1871 (hW.2.1.recv hKV rfl) rfl rfl (Nat.le_of_ble_eq_true rfl) dL_law_470 ⟨by have := hR.1; omega, by have := hR.2; omega⟩ (by omega) (by omega) hW (fun r H9 locs hL hp => ?_)
  obtain ⟨rfl, e9⟩ := hp
  cases e9
  refine lv_iload hx hb dL_law_473 (lv_at hl 1 rfl) ?_
  refine lv_icmp_eq (tgt := 480) hx hb dL_law_475 (by decide) (fun c_475 => ?_) (fun c_475 => ?_)
  ·
    refine lv_iload hx hb dL_law_480 (lv_at hl 1 rfl) ?_
    refine n_ifne (tgt := 497) X dL_law_482 (by decide) (by omega) (fun c_482 => ?_) (fun c_482 => ?_)
    ·
      refine lv_goto (tgt := 2951) hx hb dL_law_497 (by decide) ?_
      exact W.widen (by omega) (by omega) (kk _ _ _ hL (lv_sub hl [2, 3, 4, 5, 6] rfl) (LI.mk hX hW hu))
    ·
      have hu := hq c_482
      refine lv_aload_n hx hb dL_law_485 rfl (lv_at hl 5 rfl) ?_
      refine lv_iconst (v := nI 0) hx hb dL_law_486 (by decide) ?_
      refine r_lld X hu 0 rfl (by decide) (by decide) dL_law_487 ?_
      refine lv_iload hx hb dL_law_488 (lv_at hl 0 rfl) ?_
      refine lv_i2l hx hb dL_law_490 rfl ?_
      refine r_lcmp X dL_law_491 ?_
      refine lv_if_eq (tgt := 497) hx hb dL_law_492 (by decide) (fun c_492 => ?_) (fun c_492 => ?_)
      ·
        refine lv_goto (tgt := 2951) hx hb dL_law_497 (by decide) ?_
        exact W.widen (by omega) (by omega) (kk _ _ _ hL (lv_sub hl [2, 3, 4, 5, 6] rfl) (LI.mk hX hW hu))
      ·
        exact (c_492 (lcI_0.mpr rfl)).elim
  ·
    exact absurd ht c_475

set_option maxRecDepth 100000 in
set_option maxHeartbeats 4000000 in
theorem lc_3 (X : Cx p g s m args meth c cL_law 9 (yL nm) ret) (hl0 : l.stackTraces = false) (hB : LB g o b L xs s) (hR : LR R) (hi : i + 4 < L) (hL : ∀ q ∈ locs, gLo g ≤ q.base) (hl : lv_has ls 9 [(0, .ref b), (1, .ref a), (2, .ref o), (3, .ref (o + 10)), (4, .int (nI i))]) (hI : LI g a o H) (hc : cells + 6300 ≤ R.cells) (hsl : slots + 50100 ≤ R.slots)
    (kk : ∀ (H1 : Heap) (locs1 : List Loc) (ls1 : Array Slot), (∀ q ∈ locs1, gLo g ≤ q.base) → lv_has ls1 9 [(0, .ref b), (1, .ref a), (2, .ref o), (3, .ref (o + 10)), (4, .int (nI i))] → LI g a o H1 → W p l e R s m args below meth c H1 locs1 (cells + 6300) (slots + 50100) Q (F0 m 2951 ls1 [])) : W p l e R s m args below meth c H locs cells slots Q (F0 m 500 ls []) := by
  have hx := X.1
  have hb := X.2.1
  have hKV := X.2.2.2.2.2.2.2.1.1
  have hlo := hB.1
  have hL120 := hB.2.2.2.2
  obtain ⟨⟨S, n, st, ln, hf, hs, hsk, hW⟩, f, hu⟩ := hI
  obtain ⟨hN, hn, hRO, hst, hs6, hln, hl6, hF, hG⟩ := hsk.mi
  refine lv_aload_n hx hb dL_law_500 rfl (lv_at hl 1 rfl) ?_
  refine Gr.callV (ct_X1_prune l g (FF o) S n st ln hf hs a) X hL hl vb_X1_prune q297 (hsk.recv hKV) rfl rfl (Nat.le_of_ble_eq_true rfl) dL_law_501 ⟨by have := hR.1; omega, by have := hR.2; omega⟩ (by omega) (by omega) hsk (fun r H1 locs hL hp => ?_)
  obtain ⟨x, hxs, h0, hr, hX, hC⟩ := OpP.ex hp
  have hu := hu.chg hC (fun y => y (FF_u o))
  have hW := hW.keepC hC (fun q h1 h2 y => y ⟨h1, by omega⟩)
  obtain ⟨v0, hv⟩ : ∃ v9, x.2.1 = some (.int v9) := by rw [hxs]; exact ⟨_, rfl⟩
  rw [hv] at hr
  subst hr
  refine lv_aload_n hx hb dL_law_504 rfl (lv_at hl 2 rfl) ?_
  refine Gr.callV (ct_X5_prune l g o n st S hN hn hst hs6) X hL hl vb_X5_prune q1923 (hW.2.1.recv hKV rfl) rfl rfl (Nat.le_of_ble_eq_true rfl) dL_law_505 ⟨by have := hR.1; omega, by have := hR.2; omega⟩ (by omega) (by omega) hW (fun r H locs hL hp => ?_)
  obtain ⟨S1, hAP, hW, hO⟩ := hp
  obtain ⟨hSc, ht, hr⟩ : AP S1 x r := by rw [hxs]; exact hAP
  have hX := (hX.off hO hKV.gE hlo).sc hSc
  have hu := hu.at (hO.2 _ (Or.inr (by omega)))
  rw [hv] at hr
  subst hr
  refine lv_icmp_eq (tgt := 2951) hx hb dL_law_508 (by decide) (fun c_508 => ?_) (fun c_508 => ?_)
  ·
    exact W.widen (by omega) (by omega) (kk _ _ _ hL (lv_sub hl [0, 1, 2, 3, 4] rfl) (LI.mk hX hW hu))
  ·
    exact absurd rfl c_508

set_option maxRecDepth 100000 in
set_option maxHeartbeats 4000000 in
theorem lc_4 (X : Cx p g s m args meth c cL_law 9 (yL nm) ret) (hl0 : l.stackTraces = false) (hB : LB g o b L xs s) (hR : LR R) (hi : i + 4 < L) (hL : ∀ q ∈ locs, gLo g ≤ q.base) (hl : lv_has ls 9 [(0, .ref b), (1, .ref a), (2, .ref o), (3, .ref (o + 10)), (4, .int (nI i))]) (hI : LI g a o H) (hc : cells + 6300 ≤ R.cells) (hsl : slots + 50100 ≤ R.slots)
    (kk : ∀ (H1 : Heap) (locs1 : List Loc) (ls1 : Array Slot), (∀ q ∈ locs1, gLo g ≤ q.base) → lv_has ls1 9 [(0, .ref b), (1, .ref a), (2, .ref o), (3, .ref (o + 10)), (4, .int (nI i))] → LI g a o H1 → W p l e R s m args below meth c H1 locs1 (cells + 6300) (slots + 50100) Q (F0 m 2951 ls1 [])) : W p l e R s m args below meth c H locs cells slots Q (F0 m 513 ls []) := by
  have hx := X.1
  have hb := X.2.1
  have hKV := X.2.2.2.2.2.2.2.1.1
  have hlo := hB.1
  have hL120 := hB.2.2.2.2
  obtain ⟨⟨S, n, st, ln, hf, hs, hsk, hW⟩, f, hu⟩ := hI
  obtain ⟨hN, hn, hRO, hst, hs6, hln, hl6, hF, hG⟩ := hsk.mi
  refine lv_aload_n hx hb dL_law_513 rfl (lv_at hl 1 rfl) ?_
  refine lv_aload_n hx hb dL_law_514 rfl (lv_at hl 0 rfl) ?_
  refine lv_iload hx hb dL_law_515 (lv_at hl 4 rfl) ?_
  refine lv_iconst (v := nI 1) hx hb dL_law_517 (by decide) ?_
  refine n_iadd X dL_law_518 ?_
  refine r_xld X hB hL (by omega) dL_law_519 ?_
  refine lv_aload_n hx hb dL_law_520 rfl (lv_at hl 0 rfl) ?_
  refine lv_iload hx hb dL_law_521 (lv_at hl 4 rfl) ?_
  refine lv_iconst (v := nI 2) hx hb dL_law_523 (by decide) ?_
  refine n_iadd X dL_law_524 ?_
  refine r_xld X hB hL (by omega) dL_law_525 ?_
  refine lv_aload_n hx hb dL_law_526 rfl (lv_at hl 3 rfl) ?_
  refine Gr.callW (ct_X0_setWish l g (FF o) S n st ln hf hs a (xs (i + 1)) (xs (i + 2)) (o + 10) hl0 (FF_u o) (FF_lo hlo)) X hL hl sw_X0_setWish q1426 rfl rfl (Nat.le_of_ble_eq_true rfl) dL_law_527 ⟨by have := hR.1; omega, by have := hR.2; omega⟩ (by omega) (by omega) ⟨hsk, _, hu⟩ (fun r H locs hL hp => ?_)
  obtain ⟨x, hxs, hr, hx3, hnum, ⟨f, hu⟩, hX, hC⟩ := WP.ex hp
  have hW := hW.keepC hC (fun q h1 h2 y => y.elim (fun y => y ⟨h1, by omega⟩) (fun y => by have y : q = o + 10 := y; omega))
  obtain ⟨v0, hv⟩ : ∃ v9, x.2.1 = some (.int v9) := by rw [hxs]; unfold s_set; (repeat' split) <;> exact ⟨_, rfl⟩
  have hq : x.1 = 0 → Al g (o + 10) 1 (fun _ => v0.toInt64) H := fun h => by obtain ⟨n9, e1, e2⟩ := hnum h; rw [hv] at e1; cases e1; exact e2
  subst hr
  refine lv_istore (lv' := [(5, .int _), (0, .ref _), (1, .ref _), (2, .ref _), (3, .ref _), (4, .int _)]) hx hb dL_law_530 hl (by decide) rfl (fun ls hl => ?_)
  refine lv_aload_n hx hb dL_law_532 rfl (lv_at hl 3 rfl) ?_
  refine lv_aload_n hx hb dL_law_533 rfl (lv_at hl 1 rfl) ?_
  refine lv_iload hx hb dL_law_534 (lv_at hl 5 rfl) ?_
  refine lv_iconst (v := nI 1) hx hb dL_law_536 (by decide) ?_
  refine n_iadd X dL_law_537 ?_
  refine r_xld X hB hL (by omega) dL_law_538 ?_
  refine lv_aload_n hx hb dL_law_539 rfl (lv_at hl 1 rfl) ?_
  refine lv_iload hx hb dL_law_540 (lv_at hl 5 rfl) ?_
  refine lv_iconst (v := nI 2) hx hb dL_law_542 (by decide) ?_
  refine n_iadd X dL_law_543 ?_
  refine r_xld X hB hL (by omega) dL_law_544 ?_
  refine Gr.callV (ct_X5_setWish l g o st S (xs (i + 1)) (xs (i + 2)) hst hs6) X hL hl vb_X5_setWish q1955 (hW.2.1.recv hKV rfl) rfl rfl (Nat.le_of_ble_eq_true rfl) dL_law_545 ⟨by have := hR.1; omega, by have := hR.2; omega⟩ (by omega) (by omega) hW (fun r H locs hL hp => ?_)
  obtain ⟨S1, hAP, hW, hO⟩ := hp
  obtain ⟨hSc, ht, hr⟩ : AP S1 x r := by rw [hxs]; exact hAP
  have hX := (hX.off hO hKV.gE hlo).sc hSc
  have hu := hu.at (hO.2 _ (Or.inr (by omega)))
  have hq : x.1 = 0 → Al g (o + 10) 1 (fun _ => v0.toInt64) H := fun h => (hq h).at (hO.2 _ (Or.inr (by omega)))
  rw [hv] at hr
  subst hr
  refine lv_istore (lv' := [(6, .int _), (5, .int _), (0, .ref _), (1, .ref _), (2, .ref _), (3, .ref _), (4, .int _)]) hx hb dL_law_548 hl (by decide) rfl (fun ls hl => ?_)
  refine lv_aload_n hx hb dL_law_550 rfl (lv_at hl 4 rfl) ?_
  refine Gr.callV (ct_X5_thrown l g o S1) X hL hl vb_X5_thrown q1871 (hW.2.1.recv hKV rfl) rfl rfl (Nat.le_of_ble_eq_true rfl) dL_law_551 ⟨by have := hR.1; omega, by have := hR.2; omega⟩ (by omega) (by omega) hW (fun r H9 locs hL hp => ?_)
  obtain ⟨rfl, e9⟩ := hp
  cases e9
  refine lv_iload hx hb dL_law_554 (lv_at hl 1 rfl) ?_
  refine lv_icmp_eq (tgt := 561) hx hb dL_law_556 (by decide) (fun c_556 => ?_) (fun c_556 => ?_)
  ·
    refine lv_iload hx hb dL_law_561 (lv_at hl 1 rfl) ?_
    refine n_ifne (tgt := 578) X dL_law_563 (by decide) (by omega) (fun c_563 => ?_) (fun c_563 => ?_)
    ·
      refine lv_goto (tgt := 2951) hx hb dL_law_578 (by decide) ?_
      exact W.widen (by omega) (by omega) (kk _ _ _ hL (lv_sub hl [2, 3, 4, 5, 6] rfl) (LI.mk hX hW hu))
    ·
      have hu := hq c_563
      refine lv_aload_n hx hb dL_law_566 rfl (lv_at hl 5 rfl) ?_
      refine lv_iconst (v := nI 0) hx hb dL_law_567 (by decide) ?_
      refine r_lld X hu 0 rfl (by decide) (by decide) dL_law_568 ?_
      refine lv_iload hx hb dL_law_569 (lv_at hl 0 rfl) ?_
      refine lv_i2l hx hb dL_law_571 rfl ?_
      refine r_lcmp X dL_law_572 ?_
      refine lv_if_eq (tgt := 578) hx hb dL_law_573 (by decide) (fun c_573 => ?_) (fun c_573 => ?_)
      ·
        refine lv_goto (tgt := 2951) hx hb dL_law_578 (by decide) ?_
        exact W.widen (by omega) (by omega) (kk _ _ _ hL (lv_sub hl [2, 3, 4, 5, 6] rfl) (LI.mk hX hW hu))
      ·
        exact (c_573 (lcI_0.mpr rfl)).elim
  ·
    exact absurd ht c_556

set_option maxRecDepth 100000 in
set_option maxHeartbeats 4000000 in
theorem lc_5 (X : Cx p g s m args meth c cL_law 9 (yL nm) ret) (hl0 : l.stackTraces = false) (hB : LB g o b L xs s) (hR : LR R) (hi : i + 4 < L) (hL : ∀ q ∈ locs, gLo g ≤ q.base) (hl : lv_has ls 9 [(0, .ref b), (1, .ref a), (2, .ref o), (3, .ref (o + 10)), (4, .int (nI i))]) (hI : LI g a o H) (hc : cells + 6300 ≤ R.cells) (hsl : slots + 50100 ≤ R.slots)
    (kk : ∀ (H1 : Heap) (locs1 : List Loc) (ls1 : Array Slot), (∀ q ∈ locs1, gLo g ≤ q.base) → lv_has ls1 9 [(0, .ref b), (1, .ref a), (2, .ref o), (3, .ref (o + 10)), (4, .int (nI i))] → LI g a o H1 → W p l e R s m args below meth c H1 locs1 (cells + 6300) (slots + 50100) Q (F0 m 2951 ls1 [])) : W p l e R s m args below meth c H locs cells slots Q (F0 m 581 ls []) := by
  have hx := X.1
  have hb := X.2.1
  have hKV := X.2.2.2.2.2.2.2.1.1
  have hlo := hB.1
  have hL120 := hB.2.2.2.2
  obtain ⟨⟨S, n, st, ln, hf, hs, hsk, hW⟩, f, hu⟩ := hI
  obtain ⟨hN, hn, hRO, hst, hs6, hln, hl6, hF, hG⟩ := hsk.mi
  refine lv_aload_n hx hb dL_law_581 rfl (lv_at hl 1 rfl) ?_
  refine lv_aload_n hx hb dL_law_582 rfl (lv_at hl 0 rfl) ?_
  refine lv_iload hx hb dL_law_583 (lv_at hl 4 rfl) ?_
  refine lv_iconst (v := nI 1) hx hb dL_law_585 (by decide) ?_
  refine n_iadd X dL_law_586 ?_
  refine r_xld X hB hL (by omega) dL_law_587 ?_
  refine lv_aload_n hx hb dL_law_588 rfl (lv_at hl 0 rfl) ?_
  refine lv_iload hx hb dL_law_589 (lv_at hl 4 rfl) ?_
  refine lv_iconst (v := nI 2) hx hb dL_law_591 (by decide) ?_
  refine n_iadd X dL_law_592 ?_
  refine r_xld X hB hL (by omega) dL_law_593 ?_
  refine lv_aload_n hx hb dL_law_594 rfl (lv_at hl 0 rfl) ?_
  refine lv_iload hx hb dL_law_595 (lv_at hl 4 rfl) ?_
  refine lv_iconst (v := nI 3) hx hb dL_law_597 (by decide) ?_
  refine n_iadd X dL_law_598 ?_
  refine r_xld X hB hL (by omega) dL_law_599 ?_
  refine lv_aload_n hx hb dL_law_600 rfl (lv_at hl 3 rfl) ?_
  refine Gr.callW (ct_X0_setBounds l g (FF o) S n st ln hf hs a (xs (i + 1)) (xs (i + 2)) (xs (i + 3)) (o + 10) hl0 (FF_u o) (FF_lo hlo)) X hL hl sw_X0_setBounds q1437 rfl rfl (Nat.le_of_ble_eq_true rfl) dL_law_601 ⟨by have := hR.1; omega, by have := hR.2; omega⟩ (by omega) (by omega) ⟨hsk, _, hu⟩ (fun r H locs hL hp => ?_)
  obtain ⟨x, hxs, hr, hx3, hnum, ⟨f, hu⟩, hX, hC⟩ := WP.ex hp
  have hW := hW.keepC hC (fun q h1 h2 y => y.elim (fun y => y ⟨h1, by omega⟩) (fun y => by have y : q = o + 10 := y; omega))
  obtain ⟨v0, hv⟩ : ∃ v9, x.2.1 = some (.int v9) := by rw [hxs]; unfold s_bounds; (repeat' split) <;> exact ⟨_, rfl⟩
  have hq : x.1 = 0 → Al g (o + 10) 1 (fun _ => v0.toInt64) H := fun h => by obtain ⟨n9, e1, e2⟩ := hnum h; rw [hv] at e1; cases e1; exact e2
  subst hr
  refine lv_istore (lv' := [(5, .int _), (0, .ref _), (1, .ref _), (2, .ref _), (3, .ref _), (4, .int _)]) hx hb dL_law_604 hl (by decide) rfl (fun ls hl => ?_)
  refine lv_aload_n hx hb dL_law_606 rfl (lv_at hl 3 rfl) ?_
  refine lv_aload_n hx hb dL_law_607 rfl (lv_at hl 1 rfl) ?_
  refine lv_iload hx hb dL_law_608 (lv_at hl 5 rfl) ?_
  refine lv_iconst (v := nI 1) hx hb dL_law_610 (by decide) ?_
  refine n_iadd X dL_law_611 ?_
  refine r_xld X hB hL (by omega) dL_law_612 ?_
  refine lv_aload_n hx hb dL_law_613 rfl (lv_at hl 1 rfl) ?_
  refine lv_iload hx hb dL_law_614 (lv_at hl 5 rfl) ?_
  refine lv_iconst (v := nI 2) hx hb dL_law_616 (by decide) ?_
  refine n_iadd X dL_law_617 ?_
  refine r_xld X hB hL (by omega) dL_law_618 ?_
  refine lv_aload_n hx hb dL_law_619 rfl (lv_at hl 1 rfl) ?_
  refine lv_iload hx hb dL_law_620 (lv_at hl 5 rfl) ?_
  refine lv_iconst (v := nI 3) hx hb dL_law_622 (by decide) ?_
  refine n_iadd X dL_law_623 ?_
  refine r_xld X hB hL (by omega) dL_law_624 ?_
  refine Gr.callV (ct_X5_setBounds l g o n st S (xs (i + 1)) (xs (i + 2)) (xs (i + 3)) hN hn hst hs6) X hL hl vb_X5_setBounds q1959 (hW.2.1.recv hKV rfl) rfl rfl (Nat.le_of_ble_eq_true rfl) dL_law_625 ⟨by have := hR.1; omega, by have := hR.2; omega⟩ (by omega) (by omega) hW (fun r H locs hL hp => ?_)
  obtain ⟨S1, hAP, hW, hO⟩ := hp
  obtain ⟨hSc, ht, hr⟩ : AP S1 x r := by rw [hxs]; exact hAP
  have hX := (hX.off hO hKV.gE hlo).sc hSc
  have hu := hu.at (hO.2 _ (Or.inr (by omega)))
  have hq : x.1 = 0 → Al g (o + 10) 1 (fun _ => v0.toInt64) H := fun h => (hq h).at (hO.2 _ (Or.inr (by omega)))
  rw [hv] at hr
  subst hr
  refine lv_istore (lv' := [(6, .int _), (5, .int _), (0, .ref _), (1, .ref _), (2, .ref _), (3, .ref _), (4, .int _)]) hx hb dL_law_628 hl (by decide) rfl (fun ls hl => ?_)
  refine lv_aload_n hx hb dL_law_630 rfl (lv_at hl 4 rfl) ?_
  refine Gr.callV (ct_X5_thrown l g o S1) X hL hl vb_X5_thrown q1871 (hW.2.1.recv hKV rfl) rfl rfl (Nat.le_of_ble_eq_true rfl) dL_law_631 ⟨by have := hR.1; omega, by have := hR.2; omega⟩ (by omega) (by omega) hW (fun r H9 locs hL hp => ?_)
  obtain ⟨rfl, e9⟩ := hp
  cases e9
  refine lv_iload hx hb dL_law_634 (lv_at hl 1 rfl) ?_
  refine lv_icmp_eq (tgt := 641) hx hb dL_law_636 (by decide) (fun c_636 => ?_) (fun c_636 => ?_)
  ·
    refine lv_iload hx hb dL_law_641 (lv_at hl 1 rfl) ?_
    refine n_ifne (tgt := 658) X dL_law_643 (by decide) (by omega) (fun c_643 => ?_) (fun c_643 => ?_)
    ·
      refine lv_goto (tgt := 2951) hx hb dL_law_658 (by decide) ?_
      exact W.widen (by omega) (by omega) (kk _ _ _ hL (lv_sub hl [2, 3, 4, 5, 6] rfl) (LI.mk hX hW hu))
    ·
      have hu := hq c_643
      refine lv_aload_n hx hb dL_law_646 rfl (lv_at hl 5 rfl) ?_
      refine lv_iconst (v := nI 0) hx hb dL_law_647 (by decide) ?_
      refine r_lld X hu 0 rfl (by decide) (by decide) dL_law_648 ?_
      refine lv_iload hx hb dL_law_649 (lv_at hl 0 rfl) ?_
      refine lv_i2l hx hb dL_law_651 rfl ?_
      refine r_lcmp X dL_law_652 ?_
      refine lv_if_eq (tgt := 658) hx hb dL_law_653 (by decide) (fun c_653 => ?_) (fun c_653 => ?_)
      ·
        refine lv_goto (tgt := 2951) hx hb dL_law_658 (by decide) ?_
        exact W.widen (by omega) (by omega) (kk _ _ _ hL (lv_sub hl [2, 3, 4, 5, 6] rfl) (LI.mk hX hW hu))
      ·
        exact (c_653 (lcI_0.mpr rfl)).elim
  ·
    exact absurd ht c_636

set_option maxRecDepth 100000 in
set_option maxHeartbeats 4000000 in
theorem lc_6 (X : Cx p g s m args meth c cL_law 9 (yL nm) ret) (hl0 : l.stackTraces = false) (hB : LB g o b L xs s) (hR : LR R) (hi : i + 4 < L) (hL : ∀ q ∈ locs, gLo g ≤ q.base) (hl : lv_has ls 9 [(0, .ref b), (1, .ref a), (2, .ref o), (3, .ref (o + 10)), (4, .int (nI i))]) (hI : LI g a o H) (hc : cells + 6300 ≤ R.cells) (hsl : slots + 50100 ≤ R.slots)
    (kk : ∀ (H1 : Heap) (locs1 : List Loc) (ls1 : Array Slot), (∀ q ∈ locs1, gLo g ≤ q.base) → lv_has ls1 9 [(0, .ref b), (1, .ref a), (2, .ref o), (3, .ref (o + 10)), (4, .int (nI i))] → LI g a o H1 → W p l e R s m args below meth c H1 locs1 (cells + 6300) (slots + 50100) Q (F0 m 2951 ls1 [])) : W p l e R s m args below meth c H locs cells slots Q (F0 m 661 ls []) := by
  have hx := X.1
  have hb := X.2.1
  have hKV := X.2.2.2.2.2.2.2.1.1
  have hlo := hB.1
  have hL120 := hB.2.2.2.2
  obtain ⟨⟨S, n, st, ln, hf, hs, hsk, hW⟩, f, hu⟩ := hI
  obtain ⟨hN, hn, hRO, hst, hs6, hln, hl6, hF, hG⟩ := hsk.mi
  refine lv_aload_n hx hb dL_law_661 rfl (lv_at hl 1 rfl) ?_
  refine lv_aload_n hx hb dL_law_662 rfl (lv_at hl 0 rfl) ?_
  refine lv_iload hx hb dL_law_663 (lv_at hl 4 rfl) ?_
  refine lv_iconst (v := nI 1) hx hb dL_law_665 (by decide) ?_
  refine n_iadd X dL_law_666 ?_
  refine r_xld X hB hL (by omega) dL_law_667 ?_
  refine lv_aload_n hx hb dL_law_668 rfl (lv_at hl 0 rfl) ?_
  refine lv_iload hx hb dL_law_669 (lv_at hl 4 rfl) ?_
  refine lv_iconst (v := nI 2) hx hb dL_law_671 (by decide) ?_
  refine n_iadd X dL_law_672 ?_
  refine r_xld X hB hL (by omega) dL_law_673 ?_
  refine lv_aload_n hx hb dL_law_674 rfl (lv_at hl 3 rfl) ?_
  refine Gr.callW (ct_X0_setWeight l g (FF o) S n st ln hf hs a (xs (i + 1)) (xs (i + 2)) (o + 10) hl0 (FF_u o) (FF_lo hlo)) X hL hl sw_X0_setWeight q1448 rfl rfl (Nat.le_of_ble_eq_true rfl) dL_law_675 ⟨by have := hR.1; omega, by have := hR.2; omega⟩ (by omega) (by omega) ⟨hsk, _, hu⟩ (fun r H locs hL hp => ?_)
  obtain ⟨x, hxs, hr, hx3, hnum, ⟨f, hu⟩, hX, hC⟩ := WP.ex hp
  have hW := hW.keepC hC (fun q h1 h2 y => y.elim (fun y => y ⟨h1, by omega⟩) (fun y => by have y : q = o + 10 := y; omega))
  obtain ⟨v0, hv⟩ : ∃ v9, x.2.1 = some (.int v9) := by rw [hxs]; unfold s_set; (repeat' split) <;> exact ⟨_, rfl⟩
  have hq : x.1 = 0 → Al g (o + 10) 1 (fun _ => v0.toInt64) H := fun h => by obtain ⟨n9, e1, e2⟩ := hnum h; rw [hv] at e1; cases e1; exact e2
  subst hr
  refine lv_istore (lv' := [(5, .int _), (0, .ref _), (1, .ref _), (2, .ref _), (3, .ref _), (4, .int _)]) hx hb dL_law_678 hl (by decide) rfl (fun ls hl => ?_)
  refine lv_aload_n hx hb dL_law_680 rfl (lv_at hl 3 rfl) ?_
  refine lv_aload_n hx hb dL_law_681 rfl (lv_at hl 1 rfl) ?_
  refine lv_iload hx hb dL_law_682 (lv_at hl 5 rfl) ?_
  refine lv_iconst (v := nI 1) hx hb dL_law_684 (by decide) ?_
  refine n_iadd X dL_law_685 ?_
  refine r_xld X hB hL (by omega) dL_law_686 ?_
  refine lv_aload_n hx hb dL_law_687 rfl (lv_at hl 1 rfl) ?_
  refine lv_iload hx hb dL_law_688 (lv_at hl 5 rfl) ?_
  refine lv_iconst (v := nI 2) hx hb dL_law_690 (by decide) ?_
  refine n_iadd X dL_law_691 ?_
  refine r_xld X hB hL (by omega) dL_law_692 ?_
  refine Gr.callV (ct_X5_setWeight l g o st S (xs (i + 1)) (xs (i + 2)) hst hs6) X hL hl vb_X5_setWeight q1967 (hW.2.1.recv hKV rfl) rfl rfl (Nat.le_of_ble_eq_true rfl) dL_law_693 ⟨by have := hR.1; omega, by have := hR.2; omega⟩ (by omega) (by omega) hW (fun r H locs hL hp => ?_)
  obtain ⟨S1, hAP, hW, hO⟩ := hp
  obtain ⟨hSc, ht, hr⟩ : AP S1 x r := by rw [hxs]; exact hAP
  have hX := (hX.off hO hKV.gE hlo).sc hSc
  have hu := hu.at (hO.2 _ (Or.inr (by omega)))
  have hq : x.1 = 0 → Al g (o + 10) 1 (fun _ => v0.toInt64) H := fun h => (hq h).at (hO.2 _ (Or.inr (by omega)))
  rw [hv] at hr
  subst hr
  refine lv_istore (lv' := [(6, .int _), (5, .int _), (0, .ref _), (1, .ref _), (2, .ref _), (3, .ref _), (4, .int _)]) hx hb dL_law_696 hl (by decide) rfl (fun ls hl => ?_)
  refine lv_aload_n hx hb dL_law_698 rfl (lv_at hl 4 rfl) ?_
  refine Gr.callV (ct_X5_thrown l g o S1) X hL hl vb_X5_thrown q1871 (hW.2.1.recv hKV rfl) rfl rfl (Nat.le_of_ble_eq_true rfl) dL_law_699 ⟨by have := hR.1; omega, by have := hR.2; omega⟩ (by omega) (by omega) hW (fun r H9 locs hL hp => ?_)
  obtain ⟨rfl, e9⟩ := hp
  cases e9
  refine lv_iload hx hb dL_law_702 (lv_at hl 1 rfl) ?_
  refine lv_icmp_eq (tgt := 709) hx hb dL_law_704 (by decide) (fun c_704 => ?_) (fun c_704 => ?_)
  ·
    refine lv_iload hx hb dL_law_709 (lv_at hl 1 rfl) ?_
    refine n_ifne (tgt := 726) X dL_law_711 (by decide) (by omega) (fun c_711 => ?_) (fun c_711 => ?_)
    ·
      refine lv_goto (tgt := 2951) hx hb dL_law_726 (by decide) ?_
      exact W.widen (by omega) (by omega) (kk _ _ _ hL (lv_sub hl [2, 3, 4, 5, 6] rfl) (LI.mk hX hW hu))
    ·
      have hu := hq c_711
      refine lv_aload_n hx hb dL_law_714 rfl (lv_at hl 5 rfl) ?_
      refine lv_iconst (v := nI 0) hx hb dL_law_715 (by decide) ?_
      refine r_lld X hu 0 rfl (by decide) (by decide) dL_law_716 ?_
      refine lv_iload hx hb dL_law_717 (lv_at hl 0 rfl) ?_
      refine lv_i2l hx hb dL_law_719 rfl ?_
      refine r_lcmp X dL_law_720 ?_
      refine lv_if_eq (tgt := 726) hx hb dL_law_721 (by decide) (fun c_721 => ?_) (fun c_721 => ?_)
      ·
        refine lv_goto (tgt := 2951) hx hb dL_law_726 (by decide) ?_
        exact W.widen (by omega) (by omega) (kk _ _ _ hL (lv_sub hl [2, 3, 4, 5, 6] rfl) (LI.mk hX hW hu))
      ·
        exact (c_721 (lcI_0.mpr rfl)).elim
  ·
    exact absurd ht c_704

set_option maxRecDepth 100000 in
set_option maxHeartbeats 4000000 in
theorem lc_7 (X : Cx p g s m args meth c cL_law 9 (yL nm) ret) (hl0 : l.stackTraces = false) (hB : LB g o b L xs s) (hR : LR R) (hi : i + 4 < L) (hL : ∀ q ∈ locs, gLo g ≤ q.base) (hl : lv_has ls 9 [(0, .ref b), (1, .ref a), (2, .ref o), (3, .ref (o + 10)), (4, .int (nI i))]) (hI : LI g a o H) (hc : cells + 6300 ≤ R.cells) (hsl : slots + 50100 ≤ R.slots)
    (kk : ∀ (H1 : Heap) (locs1 : List Loc) (ls1 : Array Slot), (∀ q ∈ locs1, gLo g ≤ q.base) → lv_has ls1 9 [(0, .ref b), (1, .ref a), (2, .ref o), (3, .ref (o + 10)), (4, .int (nI i))] → LI g a o H1 → W p l e R s m args below meth c H1 locs1 (cells + 6300) (slots + 50100) Q (F0 m 2951 ls1 [])) : W p l e R s m args below meth c H locs cells slots Q (F0 m 729 ls []) := by
  have hx := X.1
  have hb := X.2.1
  have hKV := X.2.2.2.2.2.2.2.1.1
  have hlo := hB.1
  have hL120 := hB.2.2.2.2
  obtain ⟨⟨S, n, st, ln, hf, hs, hsk, hW⟩, f, hu⟩ := hI
  obtain ⟨hN, hn, hRO, hst, hs6, hln, hl6, hF, hG⟩ := hsk.mi
  refine lv_aload_n hx hb dL_law_729 rfl (lv_at hl 1 rfl) ?_
  refine lv_aload_n hx hb dL_law_730 rfl (lv_at hl 0 rfl) ?_
  refine lv_iload hx hb dL_law_731 (lv_at hl 4 rfl) ?_
  refine lv_iconst (v := nI 1) hx hb dL_law_733 (by decide) ?_
  refine n_iadd X dL_law_734 ?_
  refine r_xld X hB hL (by omega) dL_law_735 ?_
  refine lv_aload_n hx hb dL_law_736 rfl (lv_at hl 3 rfl) ?_
  refine Gr.callW (ct_X0_append l g (FF o) S n st ln hf hs a (xs (i + 1)) (o + 10) hl0 (FF_u o) (FF_lo hlo)) X hL hl sw_X0_append q1455 rfl rfl (Nat.le_of_ble_eq_true rfl) dL_law_737 ⟨by have := hR.1; omega, by have := hR.2; omega⟩ (by omega) (by omega) ⟨hsk, _, hu⟩ (fun r H locs hL hp => ?_)
  obtain ⟨x, hxs, hr, hx3, hnum, ⟨f, hu⟩, hX, hC⟩ := WP.ex hp
  have hW := hW.keepC hC (fun q h1 h2 y => y.elim (fun y => y ⟨h1, by omega⟩) (fun y => by have y : q = o + 10 := y; omega))
  obtain ⟨v0, hv⟩ : ∃ v9, x.2.1 = some (.int v9) := by rw [hxs]; unfold s_append; (repeat' split) <;> exact ⟨_, rfl⟩
  have hq : x.1 = 0 → Al g (o + 10) 1 (fun _ => v0.toInt64) H := fun h => by obtain ⟨n9, e1, e2⟩ := hnum h; rw [hv] at e1; cases e1; exact e2
  subst hr
  refine lv_istore (lv' := [(5, .int _), (0, .ref _), (1, .ref _), (2, .ref _), (3, .ref _), (4, .int _)]) hx hb dL_law_740 hl (by decide) rfl (fun ls hl => ?_)
  refine lv_aload_n hx hb dL_law_742 rfl (lv_at hl 3 rfl) ?_
  refine lv_aload_n hx hb dL_law_743 rfl (lv_at hl 1 rfl) ?_
  refine lv_iload hx hb dL_law_744 (lv_at hl 5 rfl) ?_
  refine lv_iconst (v := nI 1) hx hb dL_law_746 (by decide) ?_
  refine n_iadd X dL_law_747 ?_
  refine r_xld X hB hL (by omega) dL_law_748 ?_
  refine Gr.callV (ct_X5_append l g o ln S (xs (i + 1)) hln hl6) X hL hl vb_X5_append q1971 (hW.2.1.recv hKV rfl) rfl rfl (Nat.le_of_ble_eq_true rfl) dL_law_749 ⟨by have := hR.1; omega, by have := hR.2; omega⟩ (by omega) (by omega) hW (fun r H locs hL hp => ?_)
  obtain ⟨S1, hAP, hW, hO⟩ := hp
  obtain ⟨hSc, ht, hr⟩ : AP S1 x r := by rw [hxs]; exact hAP
  have hX := (hX.off hO hKV.gE hlo).sc hSc
  have hu := hu.at (hO.2 _ (Or.inr (by omega)))
  have hq : x.1 = 0 → Al g (o + 10) 1 (fun _ => v0.toInt64) H := fun h => (hq h).at (hO.2 _ (Or.inr (by omega)))
  rw [hv] at hr
  subst hr
  refine lv_istore (lv' := [(6, .int _), (5, .int _), (0, .ref _), (1, .ref _), (2, .ref _), (3, .ref _), (4, .int _)]) hx hb dL_law_752 hl (by decide) rfl (fun ls hl => ?_)
  refine lv_aload_n hx hb dL_law_754 rfl (lv_at hl 4 rfl) ?_
  refine Gr.callV (ct_X5_thrown l g o S1) X hL hl vb_X5_thrown q1871 (hW.2.1.recv hKV rfl) rfl rfl (Nat.le_of_ble_eq_true rfl) dL_law_755 ⟨by have := hR.1; omega, by have := hR.2; omega⟩ (by omega) (by omega) hW (fun r H9 locs hL hp => ?_)
  obtain ⟨rfl, e9⟩ := hp
  cases e9
  refine lv_iload hx hb dL_law_758 (lv_at hl 1 rfl) ?_
  refine lv_icmp_eq (tgt := 765) hx hb dL_law_760 (by decide) (fun c_760 => ?_) (fun c_760 => ?_)
  ·
    refine lv_iload hx hb dL_law_765 (lv_at hl 1 rfl) ?_
    refine n_ifne (tgt := 782) X dL_law_767 (by decide) (by omega) (fun c_767 => ?_) (fun c_767 => ?_)
    ·
      refine lv_goto (tgt := 2951) hx hb dL_law_782 (by decide) ?_
      exact W.widen (by omega) (by omega) (kk _ _ _ hL (lv_sub hl [2, 3, 4, 5, 6] rfl) (LI.mk hX hW hu))
    ·
      have hu := hq c_767
      refine lv_aload_n hx hb dL_law_770 rfl (lv_at hl 5 rfl) ?_
      refine lv_iconst (v := nI 0) hx hb dL_law_771 (by decide) ?_
      refine r_lld X hu 0 rfl (by decide) (by decide) dL_law_772 ?_
      refine lv_iload hx hb dL_law_773 (lv_at hl 0 rfl) ?_
      refine lv_i2l hx hb dL_law_775 rfl ?_
      refine r_lcmp X dL_law_776 ?_
      refine lv_if_eq (tgt := 782) hx hb dL_law_777 (by decide) (fun c_777 => ?_) (fun c_777 => ?_)
      ·
        refine lv_goto (tgt := 2951) hx hb dL_law_782 (by decide) ?_
        exact W.widen (by omega) (by omega) (kk _ _ _ hL (lv_sub hl [2, 3, 4, 5, 6] rfl) (LI.mk hX hW hu))
      ·
        exact (c_777 (lcI_0.mpr rfl)).elim
  ·
    exact absurd ht c_760

set_option maxRecDepth 100000 in
set_option maxHeartbeats 4000000 in
theorem lc_8 (X : Cx p g s m args meth c cL_law 9 (yL nm) ret) (hl0 : l.stackTraces = false) (hB : LB g o b L xs s) (hR : LR R) (hi : i + 4 < L) (hL : ∀ q ∈ locs, gLo g ≤ q.base) (hl : lv_has ls 9 [(0, .ref b), (1, .ref a), (2, .ref o), (3, .ref (o + 10)), (4, .int (nI i))]) (hI : LI g a o H) (hc : cells + 6300 ≤ R.cells) (hsl : slots + 50100 ≤ R.slots)
    (kk : ∀ (H1 : Heap) (locs1 : List Loc) (ls1 : Array Slot), (∀ q ∈ locs1, gLo g ≤ q.base) → lv_has ls1 9 [(0, .ref b), (1, .ref a), (2, .ref o), (3, .ref (o + 10)), (4, .int (nI i))] → LI g a o H1 → W p l e R s m args below meth c H1 locs1 (cells + 6300) (slots + 50100) Q (F0 m 2951 ls1 [])) : W p l e R s m args below meth c H locs cells slots Q (F0 m 785 ls []) := by
  have hx := X.1
  have hb := X.2.1
  have hKV := X.2.2.2.2.2.2.2.1.1
  have hlo := hB.1
  have hL120 := hB.2.2.2.2
  obtain ⟨⟨S, n, st, ln, hf, hs, hsk, hW⟩, f, hu⟩ := hI
  obtain ⟨hN, hn, hRO, hst, hs6, hln, hl6, hF, hG⟩ := hsk.mi
  refine lv_aload_n hx hb dL_law_785 rfl (lv_at hl 1 rfl) ?_
  refine Gr.callV (ct_X1_clearBuffer l g (FF o) S n st ln hf hs a) X hL hl vb_X1_clearBuffer q617 (hsk.recv hKV) rfl rfl (Nat.le_of_ble_eq_true rfl) dL_law_786 ⟨by have := hR.1; omega, by have := hR.2; omega⟩ (by omega) (by omega) hsk (fun r H1 locs hL hp => ?_)
  obtain ⟨x, hxs, h0, hr, hX, hC⟩ := OpP.ex hp
  have hu := hu.chg hC (fun y => y (FF_u o))
  have hW := hW.keepC hC (fun q h1 h2 y => y ⟨h1, by omega⟩)
  obtain ⟨v0, hv⟩ : ∃ v9, x.2.1 = some (.int v9) := by rw [hxs]; exact ⟨_, rfl⟩
  rw [hv] at hr
  subst hr
  refine lv_aload_n hx hb dL_law_789 rfl (lv_at hl 2 rfl) ?_
  refine Gr.callV (ct_X5_clearBuffer l g o ln S hln hl6) X hL hl vb_X5_clearBuffer q1975 (hW.2.1.recv hKV rfl) rfl rfl (Nat.le_of_ble_eq_true rfl) dL_law_790 ⟨by have := hR.1; omega, by have := hR.2; omega⟩ (by omega) (by omega) hW (fun r H locs hL hp => ?_)
  obtain ⟨S1, hAP, hW, hO⟩ := hp
  obtain ⟨hSc, ht, hr⟩ : AP S1 x r := by rw [hxs]; exact hAP
  have hX := (hX.off hO hKV.gE hlo).sc hSc
  have hu := hu.at (hO.2 _ (Or.inr (by omega)))
  rw [hv] at hr
  subst hr
  refine lv_icmp_eq (tgt := 2951) hx hb dL_law_793 (by decide) (fun c_793 => ?_) (fun c_793 => ?_)
  ·
    exact W.widen (by omega) (by omega) (kk _ _ _ hL (lv_sub hl [0, 1, 2, 3, 4] rfl) (LI.mk hX hW hu))
  ·
    exact absurd rfl c_793

set_option maxRecDepth 100000 in
set_option maxHeartbeats 4000000 in
theorem lc_9 (X : Cx p g s m args meth c cL_law 9 (yL nm) ret) (hl0 : l.stackTraces = false) (hB : LB g o b L xs s) (hR : LR R) (hi : i + 4 < L) (hL : ∀ q ∈ locs, gLo g ≤ q.base) (hl : lv_has ls 9 [(0, .ref b), (1, .ref a), (2, .ref o), (3, .ref (o + 10)), (4, .int (nI i))]) (hI : LI g a o H) (hc : cells + 6300 ≤ R.cells) (hsl : slots + 50100 ≤ R.slots)
    (kk : ∀ (H1 : Heap) (locs1 : List Loc) (ls1 : Array Slot), (∀ q ∈ locs1, gLo g ≤ q.base) → lv_has ls1 9 [(0, .ref b), (1, .ref a), (2, .ref o), (3, .ref (o + 10)), (4, .int (nI i))] → LI g a o H1 → W p l e R s m args below meth c H1 locs1 (cells + 6300) (slots + 50100) Q (F0 m 2951 ls1 [])) : W p l e R s m args below meth c H locs cells slots Q (F0 m 798 ls []) := by
  have hx := X.1
  have hb := X.2.1
  have hKV := X.2.2.2.2.2.2.2.1.1
  have hlo := hB.1
  have hL120 := hB.2.2.2.2
  obtain ⟨⟨S, n, st, ln, hf, hs, hsk, hW⟩, f, hu⟩ := hI
  obtain ⟨hN, hn, hRO, hst, hs6, hln, hl6, hF, hG⟩ := hsk.mi
  refine lv_aload_n hx hb dL_law_798 rfl (lv_at hl 1 rfl) ?_
  refine Gr.callV (ct_X1_firstError l g (FF o) S n st ln hf hs a) X hL hl vb_X1_firstError q897 (hsk.recv hKV) rfl rfl (Nat.le_of_ble_eq_true rfl) dL_law_799 ⟨by have := hR.1; omega, by have := hR.2; omega⟩ (by omega) (by omega) hsk (fun r H1 locs hL hp => ?_)
  obtain ⟨x, hxs, h0, hr, hE⟩ := OQ.ex hp
  have hX : SkX g (FF o) x.2.2 a H1 := by rw [show x.2.2 = S from by rw [hxs]; rfl]; exact (hsk.ext hE).x
  have hC : Chg (fun q => ¬ FF o q) H H1 := hE.chg
  have hu := hu.chg hC (fun y => y (FF_u o))
  have hW := hW.keepC hC (fun q h1 h2 y => y ⟨h1, by omega⟩)
  obtain ⟨v0, hv⟩ : ∃ v9, x.2.1 = some (.int v9) := by rw [hxs]; exact ⟨_, rfl⟩
  rw [hv] at hr
  subst hr
  refine lv_aload_n hx hb dL_law_802 rfl (lv_at hl 2 rfl) ?_
  refine Gr.callV (ct_X5_firstError l g o ln S hln hl6) X hL hl vb_X5_firstError q1979 (hW.2.1.recv hKV rfl) rfl rfl (Nat.le_of_ble_eq_true rfl) dL_law_803 ⟨by have := hR.1; omega, by have := hR.2; omega⟩ (by omega) (by omega) hW (fun r H locs hL hp => ?_)
  obtain ⟨S1, hAP, hW, hO⟩ := hp
  obtain ⟨hSc, ht, hr⟩ : AP S1 x r := by rw [hxs]; exact hAP
  have hX := (hX.off hO hKV.gE hlo).sc hSc
  have hu := hu.at (hO.2 _ (Or.inr (by omega)))
  rw [hv] at hr
  subst hr
  refine lv_icmp_eq (tgt := 2951) hx hb dL_law_806 (by decide) (fun c_806 => ?_) (fun c_806 => ?_)
  ·
    exact W.widen (by omega) (by omega) (kk _ _ _ hL (lv_sub hl [0, 1, 2, 3, 4] rfl) (LI.mk hX hW hu))
  ·
    exact absurd rfl c_806

set_option maxRecDepth 100000 in
set_option maxHeartbeats 4000000 in
theorem lc_10 (X : Cx p g s m args meth c cL_law 9 (yL nm) ret) (hl0 : l.stackTraces = false) (hB : LB g o b L xs s) (hR : LR R) (hi : i + 4 < L) (hL : ∀ q ∈ locs, gLo g ≤ q.base) (hl : lv_has ls 9 [(0, .ref b), (1, .ref a), (2, .ref o), (3, .ref (o + 10)), (4, .int (nI i))]) (hI : LI g a o H) (hc : cells + 6300 ≤ R.cells) (hsl : slots + 50100 ≤ R.slots)
    (kk : ∀ (H1 : Heap) (locs1 : List Loc) (ls1 : Array Slot), (∀ q ∈ locs1, gLo g ≤ q.base) → lv_has ls1 9 [(0, .ref b), (1, .ref a), (2, .ref o), (3, .ref (o + 10)), (4, .int (nI i))] → LI g a o H1 → W p l e R s m args below meth c H1 locs1 (cells + 6300) (slots + 50100) Q (F0 m 2951 ls1 [])) : W p l e R s m args below meth c H locs cells slots Q (F0 m 811 ls []) := by
  have hx := X.1
  have hb := X.2.1
  have hKV := X.2.2.2.2.2.2.2.1.1
  have hlo := hB.1
  have hL120 := hB.2.2.2.2
  obtain ⟨⟨S, n, st, ln, hf, hs, hsk, hW⟩, f, hu⟩ := hI
  obtain ⟨hN, hn, hRO, hst, hs6, hln, hl6, hF, hG⟩ := hsk.mi
  refine lv_aload_n hx hb dL_law_811 rfl (lv_at hl 1 rfl) ?_
  refine lv_aload_n hx hb dL_law_812 rfl (lv_at hl 3 rfl) ?_
  refine Gr.callW (ct_X0_follow l g (FF o) S n st ln hf hs a (o + 10) hl0 (FF_u o) (FF_lo hlo)) X hL hl sw_X0_follow q1479 rfl rfl (Nat.le_of_ble_eq_true rfl) dL_law_813 ⟨by have := hR.1; omega, by have := hR.2; omega⟩ (by omega) (by omega) ⟨hsk, _, hu⟩ (fun r H locs hL hp => ?_)
  obtain ⟨x, hxs, hr, hx3, hnum, ⟨f, hu⟩, hX, hC⟩ := WP.ex hp
  have hW := hW.keepC hC (fun q h1 h2 y => y.elim (fun y => y ⟨h1, by omega⟩) (fun y => by have y : q = o + 10 := y; omega))
  obtain ⟨v0, hv⟩ : ∃ v9, x.2.1 = some (.int v9) := by rw [hxs]; unfold s_follow; (repeat' split) <;> exact ⟨_, rfl⟩
  have hq : x.1 = 0 → Al g (o + 10) 1 (fun _ => v0.toInt64) H := fun h => by obtain ⟨n9, e1, e2⟩ := hnum h; rw [hv] at e1; cases e1; exact e2
  subst hr
  refine lv_istore (lv' := [(5, .int _), (0, .ref _), (1, .ref _), (2, .ref _), (3, .ref _), (4, .int _)]) hx hb dL_law_816 hl (by decide) rfl (fun ls hl => ?_)
  refine lv_aload_n hx hb dL_law_818 rfl (lv_at hl 3 rfl) ?_
  refine Gr.callV (ct_X5_follow l g o ln n st S hN hn hln hl6 hst hs6) X hL hl vb_X5_follow q2011 (hW.2.1.recv hKV rfl) rfl rfl (Nat.le_of_ble_eq_true rfl) dL_law_819 ⟨by have := hR.1; omega, by have := hR.2; omega⟩ (by omega) (by omega) hW (fun r H locs hL hp => ?_)
  obtain ⟨S1, hAP, hW, hO⟩ := hp
  obtain ⟨hSc, ht, hr⟩ : AP S1 x r := by rw [hxs]; exact hAP
  have hX := (hX.off hO hKV.gE hlo).sc hSc
  have hu := hu.at (hO.2 _ (Or.inr (by omega)))
  have hq : x.1 = 0 → Al g (o + 10) 1 (fun _ => v0.toInt64) H := fun h => (hq h).at (hO.2 _ (Or.inr (by omega)))
  rw [hv] at hr
  subst hr
  refine lv_istore (lv' := [(6, .int _), (5, .int _), (0, .ref _), (1, .ref _), (2, .ref _), (3, .ref _), (4, .int _)]) hx hb dL_law_822 hl (by decide) rfl (fun ls hl => ?_)
  refine lv_aload_n hx hb dL_law_824 rfl (lv_at hl 4 rfl) ?_
  refine Gr.callV (ct_X5_thrown l g o S1) X hL hl vb_X5_thrown q1871 (hW.2.1.recv hKV rfl) rfl rfl (Nat.le_of_ble_eq_true rfl) dL_law_825 ⟨by have := hR.1; omega, by have := hR.2; omega⟩ (by omega) (by omega) hW (fun r H9 locs hL hp => ?_)
  obtain ⟨rfl, e9⟩ := hp
  cases e9
  refine lv_iload hx hb dL_law_828 (lv_at hl 1 rfl) ?_
  refine lv_icmp_eq (tgt := 835) hx hb dL_law_830 (by decide) (fun c_830 => ?_) (fun c_830 => ?_)
  ·
    refine lv_iload hx hb dL_law_835 (lv_at hl 1 rfl) ?_
    refine n_ifne (tgt := 852) X dL_law_837 (by decide) (by omega) (fun c_837 => ?_) (fun c_837 => ?_)
    ·
      refine lv_goto (tgt := 2951) hx hb dL_law_852 (by decide) ?_
      exact W.widen (by omega) (by omega) (kk _ _ _ hL (lv_sub hl [2, 3, 4, 5, 6] rfl) (LI.mk hX hW hu))
    ·
      have hu := hq c_837
      refine lv_aload_n hx hb dL_law_840 rfl (lv_at hl 5 rfl) ?_
      refine lv_iconst (v := nI 0) hx hb dL_law_841 (by decide) ?_
      refine r_lld X hu 0 rfl (by decide) (by decide) dL_law_842 ?_
      refine lv_iload hx hb dL_law_843 (lv_at hl 0 rfl) ?_
      refine lv_i2l hx hb dL_law_845 rfl ?_
      refine r_lcmp X dL_law_846 ?_
      refine lv_if_eq (tgt := 852) hx hb dL_law_847 (by decide) (fun c_847 => ?_) (fun c_847 => ?_)
      ·
        refine lv_goto (tgt := 2951) hx hb dL_law_852 (by decide) ?_
        exact W.widen (by omega) (by omega) (kk _ _ _ hL (lv_sub hl [2, 3, 4, 5, 6] rfl) (LI.mk hX hW hu))
      ·
        exact (c_847 (lcI_0.mpr rfl)).elim
  ·
    exact absurd ht c_830

set_option maxRecDepth 100000 in
set_option maxHeartbeats 4000000 in
theorem lc_11 (X : Cx p g s m args meth c cL_law 9 (yL nm) ret) (hl0 : l.stackTraces = false) (hB : LB g o b L xs s) (hR : LR R) (hi : i + 4 < L) (hL : ∀ q ∈ locs, gLo g ≤ q.base) (hl : lv_has ls 9 [(0, .ref b), (1, .ref a), (2, .ref o), (3, .ref (o + 10)), (4, .int (nI i))]) (hI : LI g a o H) (hc : cells + 6300 ≤ R.cells) (hsl : slots + 50100 ≤ R.slots)
    (kk : ∀ (H1 : Heap) (locs1 : List Loc) (ls1 : Array Slot), (∀ q ∈ locs1, gLo g ≤ q.base) → lv_has ls1 9 [(0, .ref b), (1, .ref a), (2, .ref o), (3, .ref (o + 10)), (4, .int (nI i))] → LI g a o H1 → W p l e R s m args below meth c H1 locs1 (cells + 6300) (slots + 50100) Q (F0 m 2951 ls1 [])) : W p l e R s m args below meth c H locs cells slots Q (F0 m 855 ls []) := by
  have hx := X.1
  have hb := X.2.1
  have hKV := X.2.2.2.2.2.2.2.1.1
  have hlo := hB.1
  have hL120 := hB.2.2.2.2
  obtain ⟨⟨S, n, st, ln, hf, hs, hsk, hW⟩, f, hu⟩ := hI
  obtain ⟨hN, hn, hRO, hst, hs6, hln, hl6, hF, hG⟩ := hsk.mi
  refine lv_aload_n hx hb dL_law_855 rfl (lv_at hl 1 rfl) ?_
  refine lv_aload_n hx hb dL_law_856 rfl (lv_at hl 0 rfl) ?_
  refine lv_iload hx hb dL_law_857 (lv_at hl 4 rfl) ?_
  refine lv_iconst (v := nI 1) hx hb dL_law_859 (by decide) ?_
  refine n_iadd X dL_law_860 ?_
  refine r_xld X hB hL (by omega) dL_law_861 ?_
  refine Gr.callW (ct_X0_keep l g (FF o) S n st ln hf hs a (xs (i + 1)) hl0 (FF_lo hlo)) X hL hl sw_X0_keep q1509 rfl rfl (Nat.le_of_ble_eq_true rfl) dL_law_862 ⟨by have := hR.1; omega, by have := hR.2; omega⟩ (by omega) (by omega) hsk (fun r H locs hL hp => ?_)
  obtain ⟨x, hxs, hr, hX, hC⟩ := WV.ex hp
  have hu := hu.chg hC (fun y => y (FF_u o))
  have hW := hW.keepC hC (fun q h1 h2 y => y ⟨h1, by omega⟩)
  have hv : x.2.1 = none := by rw [hxs]; unfold s_keep; first | rfl | ((repeat' split) <;> rfl)
  subst hr
  refine lv_istore (lv' := [(5, .int _), (0, .ref _), (1, .ref _), (2, .ref _), (3, .ref _), (4, .int _)]) hx hb dL_law_865 hl (by decide) rfl (fun ls hl => ?_)
  refine lv_aload_n hx hb dL_law_867 rfl (lv_at hl 3 rfl) ?_
  refine lv_aload_n hx hb dL_law_868 rfl (lv_at hl 1 rfl) ?_
  refine lv_iload hx hb dL_law_869 (lv_at hl 5 rfl) ?_
  refine lv_iconst (v := nI 1) hx hb dL_law_871 (by decide) ?_
  refine n_iadd X dL_law_872 ?_
  refine r_xld X hB hL (by omega) dL_law_873 ?_
  refine Gr.callV (ct_X5_keep l g o S hf hs (xs (i + 1)) hF hG) X hL hl vb_X5_keep q2027 (hW.2.1.recv hKV rfl) rfl rfl (Nat.le_of_ble_eq_true rfl) dL_law_874 ⟨by have := hR.1; omega, by have := hR.2; omega⟩ (by omega) (by omega) hW (fun r H locs hL hp => ?_)
  obtain ⟨S1, hAP, hW, hO⟩ := hp
  obtain ⟨hSc, ht, hr⟩ : AP S1 x r := by rw [hxs]; exact hAP
  have hX := (hX.off hO hKV.gE hlo).sc hSc
  have hu := hu.at (hO.2 _ (Or.inr (by omega)))
  rw [hv] at hr
  subst hr
  refine lv_aload_n hx hb dL_law_877 rfl (lv_at hl 3 rfl) ?_
  refine Gr.callV (ct_X5_thrown l g o S1) X hL hl vb_X5_thrown q1871 (hW.2.1.recv hKV rfl) rfl rfl (Nat.le_of_ble_eq_true rfl) dL_law_878 ⟨by have := hR.1; omega, by have := hR.2; omega⟩ (by omega) (by omega) hW (fun r H9 locs hL hp => ?_)
  obtain ⟨rfl, e9⟩ := hp
  cases e9
  refine lv_iload hx hb dL_law_881 (lv_at hl 0 rfl) ?_
  refine lv_icmp_eq (tgt := 888) hx hb dL_law_883 (by decide) (fun c_883 => ?_) (fun c_883 => ?_)
  ·
    refine lv_goto (tgt := 2951) hx hb dL_law_888 (by decide) ?_
    exact W.widen (by omega) (by omega) (kk _ _ _ hL (lv_sub hl [1, 2, 3, 4, 5] rfl) (LI.mk hX hW hu))
  ·
    exact absurd ht c_883

set_option maxRecDepth 100000 in
set_option maxHeartbeats 4000000 in
theorem lc_12 (X : Cx p g s m args meth c cL_law 9 (yL nm) ret) (hl0 : l.stackTraces = false) (hB : LB g o b L xs s) (hR : LR R) (hi : i + 4 < L) (hL : ∀ q ∈ locs, gLo g ≤ q.base) (hl : lv_has ls 9 [(0, .ref b), (1, .ref a), (2, .ref o), (3, .ref (o + 10)), (4, .int (nI i))]) (hI : LI g a o H) (hc : cells + 6300 ≤ R.cells) (hsl : slots + 50100 ≤ R.slots)
    (kk : ∀ (H1 : Heap) (locs1 : List Loc) (ls1 : Array Slot), (∀ q ∈ locs1, gLo g ≤ q.base) → lv_has ls1 9 [(0, .ref b), (1, .ref a), (2, .ref o), (3, .ref (o + 10)), (4, .int (nI i))] → LI g a o H1 → W p l e R s m args below meth c H1 locs1 (cells + 6300) (slots + 50100) Q (F0 m 2951 ls1 [])) : W p l e R s m args below meth c H locs cells slots Q (F0 m 891 ls []) := by
  have hx := X.1
  have hb := X.2.1
  have hKV := X.2.2.2.2.2.2.2.1.1
  have hlo := hB.1
  have hL120 := hB.2.2.2.2
  obtain ⟨⟨S, n, st, ln, hf, hs, hsk, hW⟩, f, hu⟩ := hI
  obtain ⟨hN, hn, hRO, hst, hs6, hln, hl6, hF, hG⟩ := hsk.mi
  refine lv_aload_n hx hb dL_law_891 rfl (lv_at hl 1 rfl) ?_
  refine lv_aload_n hx hb dL_law_892 rfl (lv_at hl 0 rfl) ?_
  refine lv_iload hx hb dL_law_893 (lv_at hl 4 rfl) ?_
  refine lv_iconst (v := nI 1) hx hb dL_law_895 (by decide) ?_
  refine n_iadd X dL_law_896 ?_
  refine r_xld X hB hL (by omega) dL_law_897 ?_
  refine Gr.callW (ct_X0_goBack l g (FF o) S n st ln hf hs a (xs (i + 1)) hl0 (FF_lo hlo)) X hL hl sw_X0_goBack q1519 rfl rfl (Nat.le_of_ble_eq_true rfl) dL_law_898 ⟨by have := hR.1; omega, by have := hR.2; omega⟩ (by omega) (by omega) hsk (fun r H locs hL hp => ?_)
  obtain ⟨x, hxs, hr, hX, hC⟩ := WV.ex hp
  have hu := hu.chg hC (fun y => y (FF_u o))
  have hW := hW.keepC hC (fun q h1 h2 y => y ⟨h1, by omega⟩)
  have hv : x.2.1 = none := by rw [hxs]; unfold s_goBack; first | rfl | ((repeat' split) <;> rfl)
  subst hr
  refine lv_istore (lv' := [(5, .int _), (0, .ref _), (1, .ref _), (2, .ref _), (3, .ref _), (4, .int _)]) hx hb dL_law_901 hl (by decide) rfl (fun ls hl => ?_)
  refine lv_aload_n hx hb dL_law_903 rfl (lv_at hl 3 rfl) ?_
  refine lv_aload_n hx hb dL_law_904 rfl (lv_at hl 1 rfl) ?_
  refine lv_iload hx hb dL_law_905 (lv_at hl 5 rfl) ?_
  refine lv_iconst (v := nI 1) hx hb dL_law_907 (by decide) ?_
  refine n_iadd X dL_law_908 ?_
  refine r_xld X hB hL (by omega) dL_law_909 ?_
  refine Gr.callV (ct_X5_goBack l g o st S hf hs (xs (i + 1)) hst hs6 hF hG) X hL hl vb_X5_goBack q2031 (hW.2.1.recv hKV rfl) rfl rfl (Nat.le_of_ble_eq_true rfl) dL_law_910 ⟨by have := hR.1; omega, by have := hR.2; omega⟩ (by omega) (by omega) hW (fun r H locs hL hp => ?_)
  obtain ⟨S1, hAP, hW, hO⟩ := hp
  obtain ⟨hSc, ht, hr⟩ : AP S1 x r := by rw [hxs]; exact hAP
  have hX := (hX.off hO hKV.gE hlo).sc hSc
  have hu := hu.at (hO.2 _ (Or.inr (by omega)))
  rw [hv] at hr
  subst hr
  refine lv_aload_n hx hb dL_law_913 rfl (lv_at hl 3 rfl) ?_
  refine Gr.callV (ct_X5_thrown l g o S1) X hL hl vb_X5_thrown q1871 (hW.2.1.recv hKV rfl) rfl rfl (Nat.le_of_ble_eq_true rfl) dL_law_914 ⟨by have := hR.1; omega, by have := hR.2; omega⟩ (by omega) (by omega) hW (fun r H9 locs hL hp => ?_)
  obtain ⟨rfl, e9⟩ := hp
  cases e9
  refine lv_iload hx hb dL_law_917 (lv_at hl 0 rfl) ?_
  refine lv_icmp_eq (tgt := 924) hx hb dL_law_919 (by decide) (fun c_919 => ?_) (fun c_919 => ?_)
  ·
    refine lv_goto (tgt := 2951) hx hb dL_law_924 (by decide) ?_
    exact W.widen (by omega) (by omega) (kk _ _ _ hL (lv_sub hl [1, 2, 3, 4, 5] rfl) (LI.mk hX hW hu))
  ·
    exact absurd ht c_919

set_option maxRecDepth 100000 in
set_option maxHeartbeats 4000000 in
theorem lc_13 (X : Cx p g s m args meth c cL_law 9 (yL nm) ret) (hl0 : l.stackTraces = false) (hB : LB g o b L xs s) (hR : LR R) (hi : i + 4 < L) (hL : ∀ q ∈ locs, gLo g ≤ q.base) (hl : lv_has ls 9 [(0, .ref b), (1, .ref a), (2, .ref o), (3, .ref (o + 10)), (4, .int (nI i))]) (hI : LI g a o H) (hc : cells + 6300 ≤ R.cells) (hsl : slots + 50100 ≤ R.slots)
    (kk : ∀ (H1 : Heap) (locs1 : List Loc) (ls1 : Array Slot), (∀ q ∈ locs1, gLo g ≤ q.base) → lv_has ls1 9 [(0, .ref b), (1, .ref a), (2, .ref o), (3, .ref (o + 10)), (4, .int (nI i))] → LI g a o H1 → W p l e R s m args below meth c H1 locs1 (cells + 6300) (slots + 50100) Q (F0 m 2951 ls1 [])) : W p l e R s m args below meth c H locs cells slots Q (F0 m 927 ls []) := by
  have hx := X.1
  have hb := X.2.1
  have hKV := X.2.2.2.2.2.2.2.1.1
  have hlo := hB.1
  have hL120 := hB.2.2.2.2
  obtain ⟨⟨S, n, st, ln, hf, hs, hsk, hW⟩, f, hu⟩ := hI
  obtain ⟨hN, hn, hRO, hst, hs6, hln, hl6, hF, hG⟩ := hsk.mi
  refine lv_aload_n hx hb dL_law_927 rfl (lv_at hl 1 rfl) ?_
  refine Gr.callW (ct_X0_undo l g (FF o) S n st ln hf hs a hl0 (FF_lo hlo)) X hL hl sw_X0_undo q1526 rfl rfl (Nat.le_of_ble_eq_true rfl) dL_law_928 ⟨by have := hR.1; omega, by have := hR.2; omega⟩ (by omega) (by omega) hsk (fun r H locs hL hp => ?_)
  obtain ⟨x, hxs, hr, hX, hC⟩ := WV.ex hp
  have hu := hu.chg hC (fun y => y (FF_u o))
  have hW := hW.keepC hC (fun q h1 h2 y => y ⟨h1, by omega⟩)
  have hv : x.2.1 = none := by rw [hxs]; unfold s_undo; first | rfl | ((repeat' split) <;> rfl)
  subst hr
  refine lv_istore (lv' := [(5, .int _), (0, .ref _), (1, .ref _), (2, .ref _), (3, .ref _), (4, .int _)]) hx hb dL_law_931 hl (by decide) rfl (fun ls hl => ?_)
  refine lv_aload_n hx hb dL_law_933 rfl (lv_at hl 3 rfl) ?_
  refine Gr.callV (ct_X5_undo l g o st S hst hs6) X hL hl vb_X5_undo q2035 (hW.2.1.recv hKV rfl) rfl rfl (Nat.le_of_ble_eq_true rfl) dL_law_934 ⟨by have := hR.1; omega, by have := hR.2; omega⟩ (by omega) (by omega) hW (fun r H locs hL hp => ?_)
  obtain ⟨S1, hAP, hW, hO⟩ := hp
  obtain ⟨hSc, ht, hr⟩ : AP S1 x r := by rw [hxs]; exact hAP
  have hX := (hX.off hO hKV.gE hlo).sc hSc
  have hu := hu.at (hO.2 _ (Or.inr (by omega)))
  rw [hv] at hr
  subst hr
  refine lv_aload_n hx hb dL_law_937 rfl (lv_at hl 3 rfl) ?_
  refine Gr.callV (ct_X5_thrown l g o S1) X hL hl vb_X5_thrown q1871 (hW.2.1.recv hKV rfl) rfl rfl (Nat.le_of_ble_eq_true rfl) dL_law_938 ⟨by have := hR.1; omega, by have := hR.2; omega⟩ (by omega) (by omega) hW (fun r H9 locs hL hp => ?_)
  obtain ⟨rfl, e9⟩ := hp
  cases e9
  refine lv_iload hx hb dL_law_941 (lv_at hl 0 rfl) ?_
  refine lv_icmp_eq (tgt := 948) hx hb dL_law_943 (by decide) (fun c_943 => ?_) (fun c_943 => ?_)
  ·
    refine lv_goto (tgt := 2951) hx hb dL_law_948 (by decide) ?_
    exact W.widen (by omega) (by omega) (kk _ _ _ hL (lv_sub hl [1, 2, 3, 4, 5] rfl) (LI.mk hX hW hu))
  ·
    exact absurd ht c_943

set_option maxRecDepth 100000 in
set_option maxHeartbeats 4000000 in
theorem lc_14 (X : Cx p g s m args meth c cL_law 9 (yL nm) ret) (hl0 : l.stackTraces = false) (hB : LB g o b L xs s) (hR : LR R) (hi : i + 4 < L) (hL : ∀ q ∈ locs, gLo g ≤ q.base) (hl : lv_has ls 9 [(0, .ref b), (1, .ref a), (2, .ref o), (3, .ref (o + 10)), (4, .int (nI i))]) (hI : LI g a o H) (hc : cells + 6300 ≤ R.cells) (hsl : slots + 50100 ≤ R.slots)
    (kk : ∀ (H1 : Heap) (locs1 : List Loc) (ls1 : Array Slot), (∀ q ∈ locs1, gLo g ≤ q.base) → lv_has ls1 9 [(0, .ref b), (1, .ref a), (2, .ref o), (3, .ref (o + 10)), (4, .int (nI i))] → LI g a o H1 → W p l e R s m args below meth c H1 locs1 (cells + 6300) (slots + 50100) Q (F0 m 2951 ls1 [])) : W p l e R s m args below meth c H locs cells slots Q (F0 m 951 ls []) := by
  have hx := X.1
  have hb := X.2.1
  have hKV := X.2.2.2.2.2.2.2.1.1
  have hlo := hB.1
  have hL120 := hB.2.2.2.2
  obtain ⟨⟨S, n, st, ln, hf, hs, hsk, hW⟩, f, hu⟩ := hI
  obtain ⟨hN, hn, hRO, hst, hs6, hln, hl6, hF, hG⟩ := hsk.mi
  refine lv_aload_n hx hb dL_law_951 rfl (lv_at hl 1 rfl) ?_
  refine Gr.callV (ct_X1_savedStates l g (FF o) S n st ln hf hs a) X hL hl vb_X1_savedStates q985 (hsk.recv hKV) rfl rfl (Nat.le_of_ble_eq_true rfl) dL_law_952 ⟨by have := hR.1; omega, by have := hR.2; omega⟩ (by omega) (by omega) hsk (fun r H1 locs hL hp => ?_)
  obtain ⟨x, hxs, h0, hr, hE⟩ := OQ.ex hp
  have hX : SkX g (FF o) x.2.2 a H1 := by rw [show x.2.2 = S from by rw [hxs]; rfl]; exact (hsk.ext hE).x
  have hC : Chg (fun q => ¬ FF o q) H H1 := hE.chg
  have hu := hu.chg hC (fun y => y (FF_u o))
  have hW := hW.keepC hC (fun q h1 h2 y => y ⟨h1, by omega⟩)
  obtain ⟨v0, hv⟩ : ∃ v9, x.2.1 = some (.int v9) := by rw [hxs]; exact ⟨_, rfl⟩
  rw [hv] at hr
  subst hr
  refine lv_aload_n hx hb dL_law_955 rfl (lv_at hl 2 rfl) ?_
  refine Gr.callV (ct_X5_savedStates l g o st S hst hs6) X hL hl vb_X5_savedStates q2039 (hW.2.1.recv hKV rfl) rfl rfl (Nat.le_of_ble_eq_true rfl) dL_law_956 ⟨by have := hR.1; omega, by have := hR.2; omega⟩ (by omega) (by omega) hW (fun r H locs hL hp => ?_)
  obtain ⟨S1, hAP, hW, hO⟩ := hp
  obtain ⟨hSc, ht, hr⟩ : AP S1 x r := by rw [hxs]; exact hAP
  have hX := (hX.off hO hKV.gE hlo).sc hSc
  have hu := hu.at (hO.2 _ (Or.inr (by omega)))
  rw [hv] at hr
  subst hr
  refine lv_icmp_eq (tgt := 2951) hx hb dL_law_959 (by decide) (fun c_959 => ?_) (fun c_959 => ?_)
  ·
    exact W.widen (by omega) (by omega) (kk _ _ _ hL (lv_sub hl [0, 1, 2, 3, 4] rfl) (LI.mk hX hW hu))
  ·
    exact absurd rfl c_959

set_option maxRecDepth 100000 in
set_option maxHeartbeats 4000000 in
theorem lc_15 (X : Cx p g s m args meth c cL_law 9 (yL nm) ret) (hl0 : l.stackTraces = false) (hB : LB g o b L xs s) (hR : LR R) (hi : i + 4 < L) (hL : ∀ q ∈ locs, gLo g ≤ q.base) (hl : lv_has ls 9 [(0, .ref b), (1, .ref a), (2, .ref o), (3, .ref (o + 10)), (4, .int (nI i))]) (hI : LI g a o H) (hc : cells + 6300 ≤ R.cells) (hsl : slots + 50100 ≤ R.slots)
    (kk : ∀ (H1 : Heap) (locs1 : List Loc) (ls1 : Array Slot), (∀ q ∈ locs1, gLo g ≤ q.base) → lv_has ls1 9 [(0, .ref b), (1, .ref a), (2, .ref o), (3, .ref (o + 10)), (4, .int (nI i))] → LI g a o H1 → W p l e R s m args below meth c H1 locs1 (cells + 6300) (slots + 50100) Q (F0 m 2951 ls1 [])) : W p l e R s m args below meth c H locs cells slots Q (F0 m 964 ls []) := by
  have hx := X.1
  have hb := X.2.1
  have hKV := X.2.2.2.2.2.2.2.1.1
  have hlo := hB.1
  have hL120 := hB.2.2.2.2
  obtain ⟨⟨S, n, st, ln, hf, hs, hsk, hW⟩, f, hu⟩ := hI
  obtain ⟨hN, hn, hRO, hst, hs6, hln, hl6, hF, hG⟩ := hsk.mi
  refine lv_aload_n hx hb dL_law_964 rfl (lv_at hl 1 rfl) ?_
  refine Gr.callV (ct_X1_offers l g (FF o) S n st ln hf hs a) X hL hl vb_X1_offers q989 (hsk.recv hKV) rfl rfl (Nat.le_of_ble_eq_true rfl) dL_law_965 ⟨by have := hR.1; omega, by have := hR.2; omega⟩ (by omega) (by omega) hsk (fun r H1 locs hL hp => ?_)
  obtain ⟨x, hxs, h0, hr, hE⟩ := OQ.ex hp
  have hX : SkX g (FF o) x.2.2 a H1 := by rw [show x.2.2 = S from by rw [hxs]; rfl]; exact (hsk.ext hE).x
  have hC : Chg (fun q => ¬ FF o q) H H1 := hE.chg
  have hu := hu.chg hC (fun y => y (FF_u o))
  have hW := hW.keepC hC (fun q h1 h2 y => y ⟨h1, by omega⟩)
  obtain ⟨v0, hv⟩ : ∃ v9, x.2.1 = some (.int v9) := by rw [hxs]; exact ⟨_, rfl⟩
  rw [hv] at hr
  subst hr
  refine lv_aload_n hx hb dL_law_968 rfl (lv_at hl 2 rfl) ?_
  refine Gr.callV (ct_X5_offers l g o n S hN hn) X hL hl vb_X5_offers q2043 (hW.2.1.recv hKV rfl) rfl rfl (Nat.le_of_ble_eq_true rfl) dL_law_969 ⟨by have := hR.1; omega, by have := hR.2; omega⟩ (by omega) (by omega) hW (fun r H locs hL hp => ?_)
  obtain ⟨S1, hAP, hW, hO⟩ := hp
  obtain ⟨hSc, ht, hr⟩ : AP S1 x r := by rw [hxs]; exact hAP
  have hX := (hX.off hO hKV.gE hlo).sc hSc
  have hu := hu.at (hO.2 _ (Or.inr (by omega)))
  rw [hv] at hr
  subst hr
  refine lv_icmp_eq (tgt := 2951) hx hb dL_law_972 (by decide) (fun c_972 => ?_) (fun c_972 => ?_)
  ·
    exact W.widen (by omega) (by omega) (kk _ _ _ hL (lv_sub hl [0, 1, 2, 3, 4] rfl) (LI.mk hX hW hu))
  ·
    exact absurd rfl c_972

set_option maxRecDepth 100000 in
set_option maxHeartbeats 4000000 in
theorem lc_16 (X : Cx p g s m args meth c cL_law 9 (yL nm) ret) (hl0 : l.stackTraces = false) (hB : LB g o b L xs s) (hR : LR R) (hi : i + 4 < L) (hL : ∀ q ∈ locs, gLo g ≤ q.base) (hl : lv_has ls 9 [(0, .ref b), (1, .ref a), (2, .ref o), (3, .ref (o + 10)), (4, .int (nI i))]) (hI : LI g a o H) (hc : cells + 6300 ≤ R.cells) (hsl : slots + 50100 ≤ R.slots)
    (kk : ∀ (H1 : Heap) (locs1 : List Loc) (ls1 : Array Slot), (∀ q ∈ locs1, gLo g ≤ q.base) → lv_has ls1 9 [(0, .ref b), (1, .ref a), (2, .ref o), (3, .ref (o + 10)), (4, .int (nI i))] → LI g a o H1 → W p l e R s m args below meth c H1 locs1 (cells + 6300) (slots + 50100) Q (F0 m 2951 ls1 [])) : W p l e R s m args below meth c H locs cells slots Q (F0 m 977 ls []) := by
  have hx := X.1
  have hb := X.2.1
  have hKV := X.2.2.2.2.2.2.2.1.1
  have hlo := hB.1
  have hL120 := hB.2.2.2.2
  obtain ⟨⟨S, n, st, ln, hf, hs, hsk, hW⟩, f, hu⟩ := hI
  obtain ⟨hN, hn, hRO, hst, hs6, hln, hl6, hF, hG⟩ := hsk.mi
  refine lv_aload_n hx hb dL_law_977 rfl (lv_at hl 1 rfl) ?_
  refine lv_aload_n hx hb dL_law_978 rfl (lv_at hl 0 rfl) ?_
  refine lv_iload hx hb dL_law_979 (lv_at hl 4 rfl) ?_
  refine lv_iconst (v := nI 1) hx hb dL_law_981 (by decide) ?_
  refine n_iadd X dL_law_982 ?_
  refine r_xld X hB hL (by omega) dL_law_983 ?_
  refine lv_aload_n hx hb dL_law_984 rfl (lv_at hl 0 rfl) ?_
  refine lv_iload hx hb dL_law_985 (lv_at hl 4 rfl) ?_
  refine lv_iconst (v := nI 2) hx hb dL_law_987 (by decide) ?_
  refine n_iadd X dL_law_988 ?_
  refine r_xld X hB hL (by omega) dL_law_989 ?_
  refine lv_aload_n hx hb dL_law_990 rfl (lv_at hl 3 rfl) ?_
  refine Gr.callW (ct_X0_valueOf l g (FF o) S n st ln hf hs a (xs (i + 1)) (xs (i + 2)) (o + 10) hl0 (FF_u o) (FF_lo hlo)) X hL hl sw_X0_valueOf q1552 rfl rfl (Nat.le_of_ble_eq_true rfl) dL_law_991 ⟨by have := hR.1; omega, by have := hR.2; omega⟩ (by omega) (by omega) ⟨hsk, _, hu⟩ (fun r H locs hL hp => ?_)
  obtain ⟨x, hxs, hr, hx3, hnum, ⟨f, hu⟩, hX, hC⟩ := WP.ex hp
  have hW := hW.keepC hC (fun q h1 h2 y => y.elim (fun y => y ⟨h1, by omega⟩) (fun y => by have y : q = o + 10 := y; omega))
  obtain ⟨v0, hv⟩ : ∃ v9, x.2.1 = some (.int v9) := by rw [hxs]; unfold s_val; (repeat' split) <;> exact ⟨_, rfl⟩
  have hq : x.1 = 0 → Al g (o + 10) 1 (fun _ => v0.toInt64) H := fun h => by obtain ⟨n9, e1, e2⟩ := hnum h; rw [hv] at e1; cases e1; exact e2
  subst hr
  refine lv_istore (lv' := [(5, .int _), (0, .ref _), (1, .ref _), (2, .ref _), (3, .ref _), (4, .int _)]) hx hb dL_law_994 hl (by decide) rfl (fun ls hl => ?_)
  refine lv_aload_n hx hb dL_law_996 rfl (lv_at hl 3 rfl) ?_
  refine lv_aload_n hx hb dL_law_997 rfl (lv_at hl 1 rfl) ?_
  refine lv_iload hx hb dL_law_998 (lv_at hl 5 rfl) ?_
  refine lv_iconst (v := nI 1) hx hb dL_law_1000 (by decide) ?_
  refine n_iadd X dL_law_1001 ?_
  refine r_xld X hB hL (by omega) dL_law_1002 ?_
  refine lv_aload_n hx hb dL_law_1003 rfl (lv_at hl 1 rfl) ?_
  refine lv_iload hx hb dL_law_1004 (lv_at hl 5 rfl) ?_
  refine lv_iconst (v := nI 2) hx hb dL_law_1006 (by decide) ?_
  refine n_iadd X dL_law_1007 ?_
  refine r_xld X hB hL (by omega) dL_law_1008 ?_
  refine Gr.callV (ct_X5_valueOf l g o n S (xs (i + 1)) (xs (i + 2)) hN hn) X hL hl vb_X5_valueOf q2047 (hW.2.1.recv hKV rfl) rfl rfl (Nat.le_of_ble_eq_true rfl) dL_law_1009 ⟨by have := hR.1; omega, by have := hR.2; omega⟩ (by omega) (by omega) hW (fun r H locs hL hp => ?_)
  obtain ⟨S1, hAP, hW, hO⟩ := hp
  obtain ⟨hSc, ht, hr⟩ : AP S1 x r := by rw [hxs]; exact hAP
  have hX := (hX.off hO hKV.gE hlo).sc hSc
  have hu := hu.at (hO.2 _ (Or.inr (by omega)))
  have hq : x.1 = 0 → Al g (o + 10) 1 (fun _ => v0.toInt64) H := fun h => (hq h).at (hO.2 _ (Or.inr (by omega)))
  rw [hv] at hr
  subst hr
  refine lv_istore (lv' := [(6, .int _), (5, .int _), (0, .ref _), (1, .ref _), (2, .ref _), (3, .ref _), (4, .int _)]) hx hb dL_law_1012 hl (by decide) rfl (fun ls hl => ?_)
  refine lv_aload_n hx hb dL_law_1014 rfl (lv_at hl 4 rfl) ?_
  refine Gr.callV (ct_X5_thrown l g o S1) X hL hl vb_X5_thrown q1871 (hW.2.1.recv hKV rfl) rfl rfl (Nat.le_of_ble_eq_true rfl) dL_law_1015 ⟨by have := hR.1; omega, by have := hR.2; omega⟩ (by omega) (by omega) hW (fun r H9 locs hL hp => ?_)
  obtain ⟨rfl, e9⟩ := hp
  cases e9
  refine lv_iload hx hb dL_law_1018 (lv_at hl 1 rfl) ?_
  refine lv_icmp_eq (tgt := 1025) hx hb dL_law_1020 (by decide) (fun c_1020 => ?_) (fun c_1020 => ?_)
  ·
    refine lv_iload hx hb dL_law_1025 (lv_at hl 1 rfl) ?_
    refine n_ifne (tgt := 1042) X dL_law_1027 (by decide) (by omega) (fun c_1027 => ?_) (fun c_1027 => ?_)
    ·
      refine lv_goto (tgt := 2951) hx hb dL_law_1042 (by decide) ?_
      exact W.widen (by omega) (by omega) (kk _ _ _ hL (lv_sub hl [2, 3, 4, 5, 6] rfl) (LI.mk hX hW hu))
    ·
      have hu := hq c_1027
      refine lv_aload_n hx hb dL_law_1030 rfl (lv_at hl 5 rfl) ?_
      refine lv_iconst (v := nI 0) hx hb dL_law_1031 (by decide) ?_
      refine r_lld X hu 0 rfl (by decide) (by decide) dL_law_1032 ?_
      refine lv_iload hx hb dL_law_1033 (lv_at hl 0 rfl) ?_
      refine lv_i2l hx hb dL_law_1035 rfl ?_
      refine r_lcmp X dL_law_1036 ?_
      refine lv_if_eq (tgt := 1042) hx hb dL_law_1037 (by decide) (fun c_1037 => ?_) (fun c_1037 => ?_)
      ·
        refine lv_goto (tgt := 2951) hx hb dL_law_1042 (by decide) ?_
        exact W.widen (by omega) (by omega) (kk _ _ _ hL (lv_sub hl [2, 3, 4, 5, 6] rfl) (LI.mk hX hW hu))
      ·
        exact (c_1037 (lcI_0.mpr rfl)).elim
  ·
    exact absurd ht c_1020

set_option maxRecDepth 100000 in
set_option maxHeartbeats 4000000 in
theorem lc_17 (X : Cx p g s m args meth c cL_law 9 (yL nm) ret) (hl0 : l.stackTraces = false) (hB : LB g o b L xs s) (hR : LR R) (hi : i + 4 < L) (hL : ∀ q ∈ locs, gLo g ≤ q.base) (hl : lv_has ls 9 [(0, .ref b), (1, .ref a), (2, .ref o), (3, .ref (o + 10)), (4, .int (nI i))]) (hI : LI g a o H) (hc : cells + 6300 ≤ R.cells) (hsl : slots + 50100 ≤ R.slots)
    (kk : ∀ (H1 : Heap) (locs1 : List Loc) (ls1 : Array Slot), (∀ q ∈ locs1, gLo g ≤ q.base) → lv_has ls1 9 [(0, .ref b), (1, .ref a), (2, .ref o), (3, .ref (o + 10)), (4, .int (nI i))] → LI g a o H1 → W p l e R s m args below meth c H1 locs1 (cells + 6300) (slots + 50100) Q (F0 m 2951 ls1 [])) : W p l e R s m args below meth c H locs cells slots Q (F0 m 1045 ls []) := by
  have hx := X.1
  have hb := X.2.1
  have hKV := X.2.2.2.2.2.2.2.1.1
  have hlo := hB.1
  have hL120 := hB.2.2.2.2
  obtain ⟨⟨S, n, st, ln, hf, hs, hsk, hW⟩, f, hu⟩ := hI
  obtain ⟨hN, hn, hRO, hst, hs6, hln, hl6, hF, hG⟩ := hsk.mi
  refine lv_aload_n hx hb dL_law_1045 rfl (lv_at hl 1 rfl) ?_
  refine lv_aload_n hx hb dL_law_1046 rfl (lv_at hl 0 rfl) ?_
  refine lv_iload hx hb dL_law_1047 (lv_at hl 4 rfl) ?_
  refine lv_iconst (v := nI 1) hx hb dL_law_1049 (by decide) ?_
  refine n_iadd X dL_law_1050 ?_
  refine r_xld X hB hL (by omega) dL_law_1051 ?_
  refine lv_aload_n hx hb dL_law_1052 rfl (lv_at hl 3 rfl) ?_
  refine Gr.callW (ct_X0_wishOf l g (FF o) S n st ln hf hs a (xs (i + 1)) (o + 10) hl0 (FF_u o) (FF_lo hlo)) X hL hl sw_X0_wishOf q1563 rfl rfl (Nat.le_of_ble_eq_true rfl) dL_law_1053 ⟨by have := hR.1; omega, by have := hR.2; omega⟩ (by omega) (by omega) ⟨hsk, _, hu⟩ (fun r H locs hL hp => ?_)
  obtain ⟨x, hxs, hr, hx3, hnum, ⟨f, hu⟩, hX, hC⟩ := WP.ex hp
  have hW := hW.keepC hC (fun q h1 h2 y => y.elim (fun y => y ⟨h1, by omega⟩) (fun y => by have y : q = o + 10 := y; omega))
  obtain ⟨v0, hv⟩ : ∃ v9, x.2.1 = some (.int v9) := by rw [hxs]; unfold s_of; (repeat' split) <;> exact ⟨_, rfl⟩
  have hq : x.1 = 0 → Al g (o + 10) 1 (fun _ => v0.toInt64) H := fun h => by obtain ⟨n9, e1, e2⟩ := hnum h; rw [hv] at e1; cases e1; exact e2
  subst hr
  refine lv_istore (lv' := [(5, .int _), (0, .ref _), (1, .ref _), (2, .ref _), (3, .ref _), (4, .int _)]) hx hb dL_law_1056 hl (by decide) rfl (fun ls hl => ?_)
  refine lv_aload_n hx hb dL_law_1058 rfl (lv_at hl 3 rfl) ?_
  refine lv_aload_n hx hb dL_law_1059 rfl (lv_at hl 1 rfl) ?_
  refine lv_iload hx hb dL_law_1060 (lv_at hl 5 rfl) ?_
  refine lv_iconst (v := nI 1) hx hb dL_law_1062 (by decide) ?_
  refine n_iadd X dL_law_1063 ?_
  refine r_xld X hB hL (by omega) dL_law_1064 ?_
  refine Gr.callV (ct_X5_wishOf l g o S (xs (i + 1))) X hL hl vb_X5_wishOf q2051 (hW.2.1.recv hKV rfl) rfl rfl (Nat.le_of_ble_eq_true rfl) dL_law_1065 ⟨by have := hR.1; omega, by have := hR.2; omega⟩ (by omega) (by omega) hW (fun r H locs hL hp => ?_)
  obtain ⟨S1, hAP, hW, hO⟩ := hp
  obtain ⟨hSc, ht, hr⟩ : AP S1 x r := by rw [hxs]; exact hAP
  have hX := (hX.off hO hKV.gE hlo).sc hSc
  have hu := hu.at (hO.2 _ (Or.inr (by omega)))
  have hq : x.1 = 0 → Al g (o + 10) 1 (fun _ => v0.toInt64) H := fun h => (hq h).at (hO.2 _ (Or.inr (by omega)))
  rw [hv] at hr
  subst hr
  refine lv_istore (lv' := [(6, .int _), (5, .int _), (0, .ref _), (1, .ref _), (2, .ref _), (3, .ref _), (4, .int _)]) hx hb dL_law_1068 hl (by decide) rfl (fun ls hl => ?_)
  refine lv_aload_n hx hb dL_law_1070 rfl (lv_at hl 4 rfl) ?_
  refine Gr.callV (ct_X5_thrown l g o S1) X hL hl vb_X5_thrown q1871 (hW.2.1.recv hKV rfl) rfl rfl (Nat.le_of_ble_eq_true rfl) dL_law_1071 ⟨by have := hR.1; omega, by have := hR.2; omega⟩ (by omega) (by omega) hW (fun r H9 locs hL hp => ?_)
  obtain ⟨rfl, e9⟩ := hp
  cases e9
  refine lv_iload hx hb dL_law_1074 (lv_at hl 1 rfl) ?_
  refine lv_icmp_eq (tgt := 1081) hx hb dL_law_1076 (by decide) (fun c_1076 => ?_) (fun c_1076 => ?_)
  ·
    refine lv_iload hx hb dL_law_1081 (lv_at hl 1 rfl) ?_
    refine n_ifne (tgt := 1098) X dL_law_1083 (by decide) (by omega) (fun c_1083 => ?_) (fun c_1083 => ?_)
    ·
      refine lv_goto (tgt := 2951) hx hb dL_law_1098 (by decide) ?_
      exact W.widen (by omega) (by omega) (kk _ _ _ hL (lv_sub hl [2, 3, 4, 5, 6] rfl) (LI.mk hX hW hu))
    ·
      have hu := hq c_1083
      refine lv_aload_n hx hb dL_law_1086 rfl (lv_at hl 5 rfl) ?_
      refine lv_iconst (v := nI 0) hx hb dL_law_1087 (by decide) ?_
      refine r_lld X hu 0 rfl (by decide) (by decide) dL_law_1088 ?_
      refine lv_iload hx hb dL_law_1089 (lv_at hl 0 rfl) ?_
      refine lv_i2l hx hb dL_law_1091 rfl ?_
      refine r_lcmp X dL_law_1092 ?_
      refine lv_if_eq (tgt := 1098) hx hb dL_law_1093 (by decide) (fun c_1093 => ?_) (fun c_1093 => ?_)
      ·
        refine lv_goto (tgt := 2951) hx hb dL_law_1098 (by decide) ?_
        exact W.widen (by omega) (by omega) (kk _ _ _ hL (lv_sub hl [2, 3, 4, 5, 6] rfl) (LI.mk hX hW hu))
      ·
        exact (c_1093 (lcI_0.mpr rfl)).elim
  ·
    exact absurd ht c_1076

set_option maxRecDepth 100000 in
set_option maxHeartbeats 4000000 in
theorem lc_18 (X : Cx p g s m args meth c cL_law 9 (yL nm) ret) (hl0 : l.stackTraces = false) (hB : LB g o b L xs s) (hR : LR R) (hi : i + 4 < L) (hL : ∀ q ∈ locs, gLo g ≤ q.base) (hl : lv_has ls 9 [(0, .ref b), (1, .ref a), (2, .ref o), (3, .ref (o + 10)), (4, .int (nI i))]) (hI : LI g a o H) (hc : cells + 6300 ≤ R.cells) (hsl : slots + 50100 ≤ R.slots)
    (kk : ∀ (H1 : Heap) (locs1 : List Loc) (ls1 : Array Slot), (∀ q ∈ locs1, gLo g ≤ q.base) → lv_has ls1 9 [(0, .ref b), (1, .ref a), (2, .ref o), (3, .ref (o + 10)), (4, .int (nI i))] → LI g a o H1 → W p l e R s m args below meth c H1 locs1 (cells + 6300) (slots + 50100) Q (F0 m 2951 ls1 [])) : W p l e R s m args below meth c H locs cells slots Q (F0 m 1101 ls []) := by
  have hx := X.1
  have hb := X.2.1
  have hKV := X.2.2.2.2.2.2.2.1.1
  have hlo := hB.1
  have hL120 := hB.2.2.2.2
  obtain ⟨⟨S, n, st, ln, hf, hs, hsk, hW⟩, f, hu⟩ := hI
  obtain ⟨hN, hn, hRO, hst, hs6, hln, hl6, hF, hG⟩ := hsk.mi
  refine lv_aload_n hx hb dL_law_1101 rfl (lv_at hl 1 rfl) ?_
  refine lv_aload_n hx hb dL_law_1102 rfl (lv_at hl 0 rfl) ?_
  refine lv_iload hx hb dL_law_1103 (lv_at hl 4 rfl) ?_
  refine lv_iconst (v := nI 1) hx hb dL_law_1105 (by decide) ?_
  refine n_iadd X dL_law_1106 ?_
  refine r_xld X hB hL (by omega) dL_law_1107 ?_
  refine lv_aload_n hx hb dL_law_1108 rfl (lv_at hl 3 rfl) ?_
  refine Gr.callW (ct_X0_leastOf l g (FF o) S n st ln hf hs a (xs (i + 1)) (o + 10) hl0 (FF_u o) (FF_lo hlo)) X hL hl sw_X0_leastOf q1570 rfl rfl (Nat.le_of_ble_eq_true rfl) dL_law_1109 ⟨by have := hR.1; omega, by have := hR.2; omega⟩ (by omega) (by omega) ⟨hsk, _, hu⟩ (fun r H locs hL hp => ?_)
  obtain ⟨x, hxs, hr, hx3, hnum, ⟨f, hu⟩, hX, hC⟩ := WP.ex hp
  have hW := hW.keepC hC (fun q h1 h2 y => y.elim (fun y => y ⟨h1, by omega⟩) (fun y => by have y : q = o + 10 := y; omega))
  obtain ⟨v0, hv⟩ : ∃ v9, x.2.1 = some (.int v9) := by rw [hxs]; unfold s_of; (repeat' split) <;> exact ⟨_, rfl⟩
  have hq : x.1 = 0 → Al g (o + 10) 1 (fun _ => v0.toInt64) H := fun h => by obtain ⟨n9, e1, e2⟩ := hnum h; rw [hv] at e1; cases e1; exact e2
  subst hr
  refine lv_istore (lv' := [(5, .int _), (0, .ref _), (1, .ref _), (2, .ref _), (3, .ref _), (4, .int _)]) hx hb dL_law_1112 hl (by decide) rfl (fun ls hl => ?_)
  refine lv_aload_n hx hb dL_law_1114 rfl (lv_at hl 3 rfl) ?_
  refine lv_aload_n hx hb dL_law_1115 rfl (lv_at hl 1 rfl) ?_
  refine lv_iload hx hb dL_law_1116 (lv_at hl 5 rfl) ?_
  refine lv_iconst (v := nI 1) hx hb dL_law_1118 (by decide) ?_
  refine n_iadd X dL_law_1119 ?_
  refine r_xld X hB hL (by omega) dL_law_1120 ?_
  refine Gr.callV (ct_X5_leastOf l g o S (xs (i + 1))) X hL hl vb_X5_leastOf q2059 (hW.2.1.recv hKV rfl) rfl rfl (Nat.le_of_ble_eq_true rfl) dL_law_1121 ⟨by have := hR.1; omega, by have := hR.2; omega⟩ (by omega) (by omega) hW (fun r H locs hL hp => ?_)
  obtain ⟨S1, hAP, hW, hO⟩ := hp
  obtain ⟨hSc, ht, hr⟩ : AP S1 x r := by rw [hxs]; exact hAP
  have hX := (hX.off hO hKV.gE hlo).sc hSc
  have hu := hu.at (hO.2 _ (Or.inr (by omega)))
  have hq : x.1 = 0 → Al g (o + 10) 1 (fun _ => v0.toInt64) H := fun h => (hq h).at (hO.2 _ (Or.inr (by omega)))
  rw [hv] at hr
  subst hr
  refine lv_istore (lv' := [(6, .int _), (5, .int _), (0, .ref _), (1, .ref _), (2, .ref _), (3, .ref _), (4, .int _)]) hx hb dL_law_1124 hl (by decide) rfl (fun ls hl => ?_)
  refine lv_aload_n hx hb dL_law_1126 rfl (lv_at hl 4 rfl) ?_
  refine Gr.callV (ct_X5_thrown l g o S1) X hL hl vb_X5_thrown q1871 (hW.2.1.recv hKV rfl) rfl rfl (Nat.le_of_ble_eq_true rfl) dL_law_1127 ⟨by have := hR.1; omega, by have := hR.2; omega⟩ (by omega) (by omega) hW (fun r H9 locs hL hp => ?_)
  obtain ⟨rfl, e9⟩ := hp
  cases e9
  refine lv_iload hx hb dL_law_1130 (lv_at hl 1 rfl) ?_
  refine lv_icmp_eq (tgt := 1137) hx hb dL_law_1132 (by decide) (fun c_1132 => ?_) (fun c_1132 => ?_)
  ·
    refine lv_iload hx hb dL_law_1137 (lv_at hl 1 rfl) ?_
    refine n_ifne (tgt := 1154) X dL_law_1139 (by decide) (by omega) (fun c_1139 => ?_) (fun c_1139 => ?_)
    ·
      refine lv_goto (tgt := 2951) hx hb dL_law_1154 (by decide) ?_
      exact W.widen (by omega) (by omega) (kk _ _ _ hL (lv_sub hl [2, 3, 4, 5, 6] rfl) (LI.mk hX hW hu))
    ·
      have hu := hq c_1139
      refine lv_aload_n hx hb dL_law_1142 rfl (lv_at hl 5 rfl) ?_
      refine lv_iconst (v := nI 0) hx hb dL_law_1143 (by decide) ?_
      refine r_lld X hu 0 rfl (by decide) (by decide) dL_law_1144 ?_
      refine lv_iload hx hb dL_law_1145 (lv_at hl 0 rfl) ?_
      refine lv_i2l hx hb dL_law_1147 rfl ?_
      refine r_lcmp X dL_law_1148 ?_
      refine lv_if_eq (tgt := 1154) hx hb dL_law_1149 (by decide) (fun c_1149 => ?_) (fun c_1149 => ?_)
      ·
        refine lv_goto (tgt := 2951) hx hb dL_law_1154 (by decide) ?_
        exact W.widen (by omega) (by omega) (kk _ _ _ hL (lv_sub hl [2, 3, 4, 5, 6] rfl) (LI.mk hX hW hu))
      ·
        exact (c_1149 (lcI_0.mpr rfl)).elim
  ·
    exact absurd ht c_1132

set_option maxRecDepth 100000 in
set_option maxHeartbeats 4000000 in
theorem lc_19 (X : Cx p g s m args meth c cL_law 9 (yL nm) ret) (hl0 : l.stackTraces = false) (hB : LB g o b L xs s) (hR : LR R) (hi : i + 4 < L) (hL : ∀ q ∈ locs, gLo g ≤ q.base) (hl : lv_has ls 9 [(0, .ref b), (1, .ref a), (2, .ref o), (3, .ref (o + 10)), (4, .int (nI i))]) (hI : LI g a o H) (hc : cells + 6300 ≤ R.cells) (hsl : slots + 50100 ≤ R.slots)
    (kk : ∀ (H1 : Heap) (locs1 : List Loc) (ls1 : Array Slot), (∀ q ∈ locs1, gLo g ≤ q.base) → lv_has ls1 9 [(0, .ref b), (1, .ref a), (2, .ref o), (3, .ref (o + 10)), (4, .int (nI i))] → LI g a o H1 → W p l e R s m args below meth c H1 locs1 (cells + 6300) (slots + 50100) Q (F0 m 2951 ls1 [])) : W p l e R s m args below meth c H locs cells slots Q (F0 m 1157 ls []) := by
  have hx := X.1
  have hb := X.2.1
  have hKV := X.2.2.2.2.2.2.2.1.1
  have hlo := hB.1
  have hL120 := hB.2.2.2.2
  obtain ⟨⟨S, n, st, ln, hf, hs, hsk, hW⟩, f, hu⟩ := hI
  obtain ⟨hN, hn, hRO, hst, hs6, hln, hl6, hF, hG⟩ := hsk.mi
  refine lv_aload_n hx hb dL_law_1157 rfl (lv_at hl 1 rfl) ?_
  refine lv_aload_n hx hb dL_law_1158 rfl (lv_at hl 0 rfl) ?_
  refine lv_iload hx hb dL_law_1159 (lv_at hl 4 rfl) ?_
  refine lv_iconst (v := nI 1) hx hb dL_law_1161 (by decide) ?_
  refine n_iadd X dL_law_1162 ?_
  refine r_xld X hB hL (by omega) dL_law_1163 ?_
  refine lv_aload_n hx hb dL_law_1164 rfl (lv_at hl 3 rfl) ?_
  refine Gr.callW (ct_X0_mostOf l g (FF o) S n st ln hf hs a (xs (i + 1)) (o + 10) hl0 (FF_u o) (FF_lo hlo)) X hL hl sw_X0_mostOf q1577 rfl rfl (Nat.le_of_ble_eq_true rfl) dL_law_1165 ⟨by have := hR.1; omega, by have := hR.2; omega⟩ (by omega) (by omega) ⟨hsk, _, hu⟩ (fun r H locs hL hp => ?_)
  obtain ⟨x, hxs, hr, hx3, hnum, ⟨f, hu⟩, hX, hC⟩ := WP.ex hp
  have hW := hW.keepC hC (fun q h1 h2 y => y.elim (fun y => y ⟨h1, by omega⟩) (fun y => by have y : q = o + 10 := y; omega))
  obtain ⟨v0, hv⟩ : ∃ v9, x.2.1 = some (.int v9) := by rw [hxs]; unfold s_of; (repeat' split) <;> exact ⟨_, rfl⟩
  have hq : x.1 = 0 → Al g (o + 10) 1 (fun _ => v0.toInt64) H := fun h => by obtain ⟨n9, e1, e2⟩ := hnum h; rw [hv] at e1; cases e1; exact e2
  subst hr
  refine lv_istore (lv' := [(5, .int _), (0, .ref _), (1, .ref _), (2, .ref _), (3, .ref _), (4, .int _)]) hx hb dL_law_1168 hl (by decide) rfl (fun ls hl => ?_)
  refine lv_aload_n hx hb dL_law_1170 rfl (lv_at hl 3 rfl) ?_
  refine lv_aload_n hx hb dL_law_1171 rfl (lv_at hl 1 rfl) ?_
  refine lv_iload hx hb dL_law_1172 (lv_at hl 5 rfl) ?_
  refine lv_iconst (v := nI 1) hx hb dL_law_1174 (by decide) ?_
  refine n_iadd X dL_law_1175 ?_
  refine r_xld X hB hL (by omega) dL_law_1176 ?_
  refine Gr.callV (ct_X5_mostOf l g o S (xs (i + 1))) X hL hl vb_X5_mostOf q2063 (hW.2.1.recv hKV rfl) rfl rfl (Nat.le_of_ble_eq_true rfl) dL_law_1177 ⟨by have := hR.1; omega, by have := hR.2; omega⟩ (by omega) (by omega) hW (fun r H locs hL hp => ?_)
  obtain ⟨S1, hAP, hW, hO⟩ := hp
  obtain ⟨hSc, ht, hr⟩ : AP S1 x r := by rw [hxs]; exact hAP
  have hX := (hX.off hO hKV.gE hlo).sc hSc
  have hu := hu.at (hO.2 _ (Or.inr (by omega)))
  have hq : x.1 = 0 → Al g (o + 10) 1 (fun _ => v0.toInt64) H := fun h => (hq h).at (hO.2 _ (Or.inr (by omega)))
  rw [hv] at hr
  subst hr
  refine lv_istore (lv' := [(6, .int _), (5, .int _), (0, .ref _), (1, .ref _), (2, .ref _), (3, .ref _), (4, .int _)]) hx hb dL_law_1180 hl (by decide) rfl (fun ls hl => ?_)
  refine lv_aload_n hx hb dL_law_1182 rfl (lv_at hl 4 rfl) ?_
  refine Gr.callV (ct_X5_thrown l g o S1) X hL hl vb_X5_thrown q1871 (hW.2.1.recv hKV rfl) rfl rfl (Nat.le_of_ble_eq_true rfl) dL_law_1183 ⟨by have := hR.1; omega, by have := hR.2; omega⟩ (by omega) (by omega) hW (fun r H9 locs hL hp => ?_)
  obtain ⟨rfl, e9⟩ := hp
  cases e9
  refine lv_iload hx hb dL_law_1186 (lv_at hl 1 rfl) ?_
  refine lv_icmp_eq (tgt := 1193) hx hb dL_law_1188 (by decide) (fun c_1188 => ?_) (fun c_1188 => ?_)
  ·
    refine lv_iload hx hb dL_law_1193 (lv_at hl 1 rfl) ?_
    refine n_ifne (tgt := 1210) X dL_law_1195 (by decide) (by omega) (fun c_1195 => ?_) (fun c_1195 => ?_)
    ·
      refine lv_goto (tgt := 2951) hx hb dL_law_1210 (by decide) ?_
      exact W.widen (by omega) (by omega) (kk _ _ _ hL (lv_sub hl [2, 3, 4, 5, 6] rfl) (LI.mk hX hW hu))
    ·
      have hu := hq c_1195
      refine lv_aload_n hx hb dL_law_1198 rfl (lv_at hl 5 rfl) ?_
      refine lv_iconst (v := nI 0) hx hb dL_law_1199 (by decide) ?_
      refine r_lld X hu 0 rfl (by decide) (by decide) dL_law_1200 ?_
      refine lv_iload hx hb dL_law_1201 (lv_at hl 0 rfl) ?_
      refine lv_i2l hx hb dL_law_1203 rfl ?_
      refine r_lcmp X dL_law_1204 ?_
      refine lv_if_eq (tgt := 1210) hx hb dL_law_1205 (by decide) (fun c_1205 => ?_) (fun c_1205 => ?_)
      ·
        refine lv_goto (tgt := 2951) hx hb dL_law_1210 (by decide) ?_
        exact W.widen (by omega) (by omega) (kk _ _ _ hL (lv_sub hl [2, 3, 4, 5, 6] rfl) (LI.mk hX hW hu))
      ·
        exact (c_1205 (lcI_0.mpr rfl)).elim
  ·
    exact absurd ht c_1188

set_option maxRecDepth 100000 in
set_option maxHeartbeats 4000000 in
theorem lc_20 (X : Cx p g s m args meth c cL_law 9 (yL nm) ret) (hl0 : l.stackTraces = false) (hB : LB g o b L xs s) (hR : LR R) (hi : i + 4 < L) (hL : ∀ q ∈ locs, gLo g ≤ q.base) (hl : lv_has ls 9 [(0, .ref b), (1, .ref a), (2, .ref o), (3, .ref (o + 10)), (4, .int (nI i))]) (hI : LI g a o H) (hc : cells + 6300 ≤ R.cells) (hsl : slots + 50100 ≤ R.slots)
    (kk : ∀ (H1 : Heap) (locs1 : List Loc) (ls1 : Array Slot), (∀ q ∈ locs1, gLo g ≤ q.base) → lv_has ls1 9 [(0, .ref b), (1, .ref a), (2, .ref o), (3, .ref (o + 10)), (4, .int (nI i))] → LI g a o H1 → W p l e R s m args below meth c H1 locs1 (cells + 6300) (slots + 50100) Q (F0 m 2951 ls1 [])) : W p l e R s m args below meth c H locs cells slots Q (F0 m 1213 ls []) := by
  have hx := X.1
  have hb := X.2.1
  have hKV := X.2.2.2.2.2.2.2.1.1
  have hlo := hB.1
  have hL120 := hB.2.2.2.2
  obtain ⟨⟨S, n, st, ln, hf, hs, hsk, hW⟩, f, hu⟩ := hI
  obtain ⟨hN, hn, hRO, hst, hs6, hln, hl6, hF, hG⟩ := hsk.mi
  refine lv_aload_n hx hb dL_law_1213 rfl (lv_at hl 1 rfl) ?_
  refine lv_aload_n hx hb dL_law_1214 rfl (lv_at hl 0 rfl) ?_
  refine lv_iload hx hb dL_law_1215 (lv_at hl 4 rfl) ?_
  refine lv_iconst (v := nI 1) hx hb dL_law_1217 (by decide) ?_
  refine n_iadd X dL_law_1218 ?_
  refine r_xld X hB hL (by omega) dL_law_1219 ?_
  refine lv_aload_n hx hb dL_law_1220 rfl (lv_at hl 3 rfl) ?_
  refine Gr.callW (ct_X0_weightOf l g (FF o) S n st ln hf hs a (xs (i + 1)) (o + 10) hl0 (FF_u o) (FF_lo hlo)) X hL hl sw_X0_weightOf q1584 rfl rfl (Nat.le_of_ble_eq_true rfl) dL_law_1221 ⟨by have := hR.1; omega, by have := hR.2; omega⟩ (by omega) (by omega) ⟨hsk, _, hu⟩ (fun r H locs hL hp => ?_)
  obtain ⟨x, hxs, hr, hx3, hnum, ⟨f, hu⟩, hX, hC⟩ := WP.ex hp
  have hW := hW.keepC hC (fun q h1 h2 y => y.elim (fun y => y ⟨h1, by omega⟩) (fun y => by have y : q = o + 10 := y; omega))
  obtain ⟨v0, hv⟩ : ∃ v9, x.2.1 = some (.int v9) := by rw [hxs]; unfold s_of; (repeat' split) <;> exact ⟨_, rfl⟩
  have hq : x.1 = 0 → Al g (o + 10) 1 (fun _ => v0.toInt64) H := fun h => by obtain ⟨n9, e1, e2⟩ := hnum h; rw [hv] at e1; cases e1; exact e2
  subst hr
  refine lv_istore (lv' := [(5, .int _), (0, .ref _), (1, .ref _), (2, .ref _), (3, .ref _), (4, .int _)]) hx hb dL_law_1224 hl (by decide) rfl (fun ls hl => ?_)
  refine lv_aload_n hx hb dL_law_1226 rfl (lv_at hl 3 rfl) ?_
  refine lv_aload_n hx hb dL_law_1227 rfl (lv_at hl 1 rfl) ?_
  refine lv_iload hx hb dL_law_1228 (lv_at hl 5 rfl) ?_
  refine lv_iconst (v := nI 1) hx hb dL_law_1230 (by decide) ?_
  refine n_iadd X dL_law_1231 ?_
  refine r_xld X hB hL (by omega) dL_law_1232 ?_
  refine Gr.callV (ct_X5_weightOf l g o S (xs (i + 1))) X hL hl vb_X5_weightOf q2067 (hW.2.1.recv hKV rfl) rfl rfl (Nat.le_of_ble_eq_true rfl) dL_law_1233 ⟨by have := hR.1; omega, by have := hR.2; omega⟩ (by omega) (by omega) hW (fun r H locs hL hp => ?_)
  obtain ⟨S1, hAP, hW, hO⟩ := hp
  obtain ⟨hSc, ht, hr⟩ : AP S1 x r := by rw [hxs]; exact hAP
  have hX := (hX.off hO hKV.gE hlo).sc hSc
  have hu := hu.at (hO.2 _ (Or.inr (by omega)))
  have hq : x.1 = 0 → Al g (o + 10) 1 (fun _ => v0.toInt64) H := fun h => (hq h).at (hO.2 _ (Or.inr (by omega)))
  rw [hv] at hr
  subst hr
  refine lv_istore (lv' := [(6, .int _), (5, .int _), (0, .ref _), (1, .ref _), (2, .ref _), (3, .ref _), (4, .int _)]) hx hb dL_law_1236 hl (by decide) rfl (fun ls hl => ?_)
  refine lv_aload_n hx hb dL_law_1238 rfl (lv_at hl 4 rfl) ?_
  refine Gr.callV (ct_X5_thrown l g o S1) X hL hl vb_X5_thrown q1871 (hW.2.1.recv hKV rfl) rfl rfl (Nat.le_of_ble_eq_true rfl) dL_law_1239 ⟨by have := hR.1; omega, by have := hR.2; omega⟩ (by omega) (by omega) hW (fun r H9 locs hL hp => ?_)
  obtain ⟨rfl, e9⟩ := hp
  cases e9
  refine lv_iload hx hb dL_law_1242 (lv_at hl 1 rfl) ?_
  refine lv_icmp_eq (tgt := 1249) hx hb dL_law_1244 (by decide) (fun c_1244 => ?_) (fun c_1244 => ?_)
  ·
    refine lv_iload hx hb dL_law_1249 (lv_at hl 1 rfl) ?_
    refine n_ifne (tgt := 1266) X dL_law_1251 (by decide) (by omega) (fun c_1251 => ?_) (fun c_1251 => ?_)
    ·
      refine lv_goto (tgt := 2951) hx hb dL_law_1266 (by decide) ?_
      exact W.widen (by omega) (by omega) (kk _ _ _ hL (lv_sub hl [2, 3, 4, 5, 6] rfl) (LI.mk hX hW hu))
    ·
      have hu := hq c_1251
      refine lv_aload_n hx hb dL_law_1254 rfl (lv_at hl 5 rfl) ?_
      refine lv_iconst (v := nI 0) hx hb dL_law_1255 (by decide) ?_
      refine r_lld X hu 0 rfl (by decide) (by decide) dL_law_1256 ?_
      refine lv_iload hx hb dL_law_1257 (lv_at hl 0 rfl) ?_
      refine lv_i2l hx hb dL_law_1259 rfl ?_
      refine r_lcmp X dL_law_1260 ?_
      refine lv_if_eq (tgt := 1266) hx hb dL_law_1261 (by decide) (fun c_1261 => ?_) (fun c_1261 => ?_)
      ·
        refine lv_goto (tgt := 2951) hx hb dL_law_1266 (by decide) ?_
        exact W.widen (by omega) (by omega) (kk _ _ _ hL (lv_sub hl [2, 3, 4, 5, 6] rfl) (LI.mk hX hW hu))
      ·
        exact (c_1261 (lcI_0.mpr rfl)).elim
  ·
    exact absurd ht c_1244

set_option maxRecDepth 100000 in
set_option maxHeartbeats 4000000 in
theorem lc_21 (X : Cx p g s m args meth c cL_law 9 (yL nm) ret) (hl0 : l.stackTraces = false) (hB : LB g o b L xs s) (hR : LR R) (hi : i + 4 < L) (hL : ∀ q ∈ locs, gLo g ≤ q.base) (hl : lv_has ls 9 [(0, .ref b), (1, .ref a), (2, .ref o), (3, .ref (o + 10)), (4, .int (nI i))]) (hI : LI g a o H) (hc : cells + 6300 ≤ R.cells) (hsl : slots + 50100 ≤ R.slots)
    (kk : ∀ (H1 : Heap) (locs1 : List Loc) (ls1 : Array Slot), (∀ q ∈ locs1, gLo g ≤ q.base) → lv_has ls1 9 [(0, .ref b), (1, .ref a), (2, .ref o), (3, .ref (o + 10)), (4, .int (nI i))] → LI g a o H1 → W p l e R s m args below meth c H1 locs1 (cells + 6300) (slots + 50100) Q (F0 m 2951 ls1 [])) : W p l e R s m args below meth c H locs cells slots Q (F0 m 1269 ls []) := by
  have hx := X.1
  have hb := X.2.1
  have hKV := X.2.2.2.2.2.2.2.1.1
  have hlo := hB.1
  have hL120 := hB.2.2.2.2
  obtain ⟨⟨S, n, st, ln, hf, hs, hsk, hW⟩, f, hu⟩ := hI
  obtain ⟨hN, hn, hRO, hst, hs6, hln, hl6, hF, hG⟩ := hsk.mi
  refine lv_aload_n hx hb dL_law_1269 rfl (lv_at hl 1 rfl) ?_
  refine lv_aload_n hx hb dL_law_1270 rfl (lv_at hl 0 rfl) ?_
  refine lv_iload hx hb dL_law_1271 (lv_at hl 4 rfl) ?_
  refine lv_iconst (v := nI 1) hx hb dL_law_1273 (by decide) ?_
  refine n_iadd X dL_law_1274 ?_
  refine r_xld X hB hL (by omega) dL_law_1275 ?_
  refine lv_aload_n hx hb dL_law_1276 rfl (lv_at hl 3 rfl) ?_
  refine Gr.callW (ct_X0_isCounted l g (FF o) S n st ln hf hs a (xs (i + 1)) (o + 10) hl0 (FF_u o) (FF_lo hlo)) X hL hl sw_X0_isCounted q1591 rfl rfl (Nat.le_of_ble_eq_true rfl) dL_law_1277 ⟨by have := hR.1; omega, by have := hR.2; omega⟩ (by omega) (by omega) ⟨hsk, _, hu⟩ (fun r H locs hL hp => ?_)
  obtain ⟨x, hxs, hr, hx3, hnum, ⟨f, hu⟩, hX, hC⟩ := WP.ex hp
  have hW := hW.keepC hC (fun q h1 h2 y => y.elim (fun y => y ⟨h1, by omega⟩) (fun y => by have y : q = o + 10 := y; omega))
  obtain ⟨b0, hv⟩ : ∃ b9, x.2.1 = some (.int (bI b9)) := by rw [hxs]; unfold s_one; split <;> first | exact ⟨false, rfl⟩ | exact ⟨_, rfl⟩
  have hq : x.1 = 0 → Al g (o + 10) 1 (fun _ => (bI b0).toInt64) H := fun h => by obtain ⟨n9, e1, e2⟩ := hnum h; rw [hv] at e1; cases e1; exact e2
  subst hr
  refine lv_istore (lv' := [(5, .int _), (0, .ref _), (1, .ref _), (2, .ref _), (3, .ref _), (4, .int _)]) hx hb dL_law_1280 hl (by decide) rfl (fun ls hl => ?_)
  refine lv_aload_n hx hb dL_law_1282 rfl (lv_at hl 3 rfl) ?_
  refine lv_aload_n hx hb dL_law_1283 rfl (lv_at hl 1 rfl) ?_
  refine lv_iload hx hb dL_law_1284 (lv_at hl 5 rfl) ?_
  refine lv_iconst (v := nI 1) hx hb dL_law_1286 (by decide) ?_
  refine n_iadd X dL_law_1287 ?_
  refine r_xld X hB hL (by omega) dL_law_1288 ?_
  refine Gr.callV (ct_X5_isCounted l g o n S (xs (i + 1)) hN hn) X hL hl vb_X5_isCounted q2071 (hW.2.1.recv hKV rfl) rfl rfl (Nat.le_of_ble_eq_true rfl) dL_law_1289 ⟨by have := hR.1; omega, by have := hR.2; omega⟩ (by omega) (by omega) hW (fun r H locs hL hp => ?_)
  obtain ⟨S1, hAP, hW, hO⟩ := hp
  obtain ⟨hSc, ht, hr⟩ : AP S1 x r := by rw [hxs]; exact hAP
  have hX := (hX.off hO hKV.gE hlo).sc hSc
  have hu := hu.at (hO.2 _ (Or.inr (by omega)))
  have hq : x.1 = 0 → Al g (o + 10) 1 (fun _ => (bI b0).toInt64) H := fun h => (hq h).at (hO.2 _ (Or.inr (by omega)))
  rw [hv] at hr
  subst hr
  refine lv_istore (lv' := [(6, .int _), (5, .int _), (0, .ref _), (1, .ref _), (2, .ref _), (3, .ref _), (4, .int _)]) hx hb dL_law_1292 hl (by decide) rfl (fun ls hl => ?_)
  refine lv_aload_n hx hb dL_law_1294 rfl (lv_at hl 4 rfl) ?_
  refine Gr.callV (ct_X5_thrown l g o S1) X hL hl vb_X5_thrown q1871 (hW.2.1.recv hKV rfl) rfl rfl (Nat.le_of_ble_eq_true rfl) dL_law_1295 ⟨by have := hR.1; omega, by have := hR.2; omega⟩ (by omega) (by omega) hW (fun r H9 locs hL hp => ?_)
  obtain ⟨rfl, e9⟩ := hp
  cases e9
  refine lv_iload hx hb dL_law_1298 (lv_at hl 1 rfl) ?_
  refine lv_icmp_eq (tgt := 1305) hx hb dL_law_1300 (by decide) (fun c_1300 => ?_) (fun c_1300 => ?_)
  ·
    refine lv_iload hx hb dL_law_1305 (lv_at hl 1 rfl) ?_
    refine n_ifne (tgt := 1329) X dL_law_1307 (by decide) (by omega) (fun c_1307 => ?_) (fun c_1307 => ?_)
    ·
      refine lv_goto (tgt := 2951) hx hb dL_law_1329 (by decide) ?_
      exact W.widen (by omega) (by omega) (kk _ _ _ hL (lv_sub hl [2, 3, 4, 5, 6] rfl) (LI.mk hX hW hu))
    ·
      have hu := hq c_1307
      refine lv_aload_n hx hb dL_law_1310 rfl (lv_at hl 5 rfl) ?_
      refine lv_iconst (v := nI 0) hx hb dL_law_1311 (by decide) ?_
      refine r_lld X hu 0 rfl (by decide) (by decide) dL_law_1312 ?_
      refine lv_iload hx hb dL_law_1313 (lv_at hl 0 rfl) ?_
      refine b_ifeq (tgt := 1322) X dL_law_1315 (by decide) (fun c_1315 => ?_) (fun c_1315 => ?_)
      ·
        refine lv_lconst (v := 0) hx hb dL_law_1322 (by decide) ?_
        refine r_lcmp X dL_law_1323 ?_
        refine lv_if_eq (tgt := 1329) hx hb dL_law_1324 (by decide) (fun c_1324 => ?_) (fun c_1324 => ?_)
        ·
          refine lv_goto (tgt := 2951) hx hb dL_law_1329 (by decide) ?_
          exact W.widen (by omega) (by omega) (kk _ _ _ hL (lv_sub hl [2, 3, 4, 5, 6] rfl) (LI.mk hX hW hu))
        ·
          exact (c_1324 (lcI_0.mpr (by rw [c_1315]; rfl))).elim
      ·
        refine lv_lconst (v := 1) hx hb dL_law_1318 (by decide) ?_
        refine lv_goto (tgt := 1323) hx hb dL_law_1319 (by decide) ?_
        refine r_lcmp X dL_law_1323 ?_
        refine lv_if_eq (tgt := 1329) hx hb dL_law_1324 (by decide) (fun c_1324 => ?_) (fun c_1324 => ?_)
        ·
          refine lv_goto (tgt := 2951) hx hb dL_law_1329 (by decide) ?_
          exact W.widen (by omega) (by omega) (kk _ _ _ hL (lv_sub hl [2, 3, 4, 5, 6] rfl) (LI.mk hX hW hu))
        ·
          exact (c_1324 (lcI_0.mpr (by rw [c_1315]; rfl))).elim
  ·
    exact absurd ht c_1300

set_option maxRecDepth 100000 in
set_option maxHeartbeats 4000000 in
theorem lc_22 (X : Cx p g s m args meth c cL_law 9 (yL nm) ret) (hl0 : l.stackTraces = false) (hB : LB g o b L xs s) (hR : LR R) (hi : i + 4 < L) (hL : ∀ q ∈ locs, gLo g ≤ q.base) (hl : lv_has ls 9 [(0, .ref b), (1, .ref a), (2, .ref o), (3, .ref (o + 10)), (4, .int (nI i))]) (hI : LI g a o H) (hc : cells + 6300 ≤ R.cells) (hsl : slots + 50100 ≤ R.slots)
    (kk : ∀ (H1 : Heap) (locs1 : List Loc) (ls1 : Array Slot), (∀ q ∈ locs1, gLo g ≤ q.base) → lv_has ls1 9 [(0, .ref b), (1, .ref a), (2, .ref o), (3, .ref (o + 10)), (4, .int (nI i))] → LI g a o H1 → W p l e R s m args below meth c H1 locs1 (cells + 6300) (slots + 50100) Q (F0 m 2951 ls1 [])) : W p l e R s m args below meth c H locs cells slots Q (F0 m 1332 ls []) := by
  have hx := X.1
  have hb := X.2.1
  have hKV := X.2.2.2.2.2.2.2.1.1
  have hlo := hB.1
  have hL120 := hB.2.2.2.2
  obtain ⟨⟨S, n, st, ln, hf, hs, hsk, hW⟩, f, hu⟩ := hI
  obtain ⟨hN, hn, hRO, hst, hs6, hln, hl6, hF, hG⟩ := hsk.mi
  refine lv_aload_n hx hb dL_law_1332 rfl (lv_at hl 1 rfl) ?_
  refine Gr.callV (ct_X1_counting l g (FF o) S n st ln hf hs a) X hL hl vb_X1_counting q994 (hsk.recv hKV) rfl rfl (Nat.le_of_ble_eq_true rfl) dL_law_1333 ⟨by have := hR.1; omega, by have := hR.2; omega⟩ (by omega) (by omega) hsk (fun r H1 locs hL hp => ?_)
  obtain ⟨x, hxs, h0, hr, hE⟩ := OQ.ex hp
  have hX : SkX g (FF o) x.2.2 a H1 := by rw [show x.2.2 = S from by rw [hxs]; rfl]; exact (hsk.ext hE).x
  have hC : Chg (fun q => ¬ FF o q) H H1 := hE.chg
  have hu := hu.chg hC (fun y => y (FF_u o))
  have hW := hW.keepC hC (fun q h1 h2 y => y ⟨h1, by omega⟩)
  obtain ⟨v0, hv⟩ : ∃ v9, x.2.1 = some (.int v9) := by rw [hxs]; exact ⟨_, rfl⟩
  rw [hv] at hr
  subst hr
  refine lv_aload_n hx hb dL_law_1336 rfl (lv_at hl 2 rfl) ?_
  refine Gr.callV (ct_X5_counting l g o n S hN hn) X hL hl vb_X5_counting q2075 (hW.2.1.recv hKV rfl) rfl rfl (Nat.le_of_ble_eq_true rfl) dL_law_1337 ⟨by have := hR.1; omega, by have := hR.2; omega⟩ (by omega) (by omega) hW (fun r H locs hL hp => ?_)
  obtain ⟨S1, hAP, hW, hO⟩ := hp
  obtain ⟨hSc, ht, hr⟩ : AP S1 x r := by rw [hxs]; exact hAP
  have hX := (hX.off hO hKV.gE hlo).sc hSc
  have hu := hu.at (hO.2 _ (Or.inr (by omega)))
  rw [hv] at hr
  subst hr
  refine lv_icmp_eq (tgt := 2951) hx hb dL_law_1340 (by decide) (fun c_1340 => ?_) (fun c_1340 => ?_)
  ·
    exact W.widen (by omega) (by omega) (kk _ _ _ hL (lv_sub hl [0, 1, 2, 3, 4] rfl) (LI.mk hX hW hu))
  ·
    exact absurd rfl c_1340

set_option maxRecDepth 100000 in
set_option maxHeartbeats 4000000 in
theorem lc_23 (X : Cx p g s m args meth c cL_law 9 (yL nm) ret) (hl0 : l.stackTraces = false) (hB : LB g o b L xs s) (hR : LR R) (hi : i + 4 < L) (hL : ∀ q ∈ locs, gLo g ≤ q.base) (hl : lv_has ls 9 [(0, .ref b), (1, .ref a), (2, .ref o), (3, .ref (o + 10)), (4, .int (nI i))]) (hI : LI g a o H) (hc : cells + 6300 ≤ R.cells) (hsl : slots + 50100 ≤ R.slots)
    (kk : ∀ (H1 : Heap) (locs1 : List Loc) (ls1 : Array Slot), (∀ q ∈ locs1, gLo g ≤ q.base) → lv_has ls1 9 [(0, .ref b), (1, .ref a), (2, .ref o), (3, .ref (o + 10)), (4, .int (nI i))] → LI g a o H1 → W p l e R s m args below meth c H1 locs1 (cells + 6300) (slots + 50100) Q (F0 m 2951 ls1 [])) : W p l e R s m args below meth c H locs cells slots Q (F0 m 1345 ls []) := by
  have hx := X.1
  have hb := X.2.1
  have hKV := X.2.2.2.2.2.2.2.1.1
  have hlo := hB.1
  have hL120 := hB.2.2.2.2
  obtain ⟨⟨S, n, st, ln, hf, hs, hsk, hW⟩, f, hu⟩ := hI
  obtain ⟨hN, hn, hRO, hst, hs6, hln, hl6, hF, hG⟩ := hsk.mi
  refine lv_aload_n hx hb dL_law_1345 rfl (lv_at hl 1 rfl) ?_
  refine lv_aload_n hx hb dL_law_1346 rfl (lv_at hl 0 rfl) ?_
  refine lv_iload hx hb dL_law_1347 (lv_at hl 4 rfl) ?_
  refine lv_iconst (v := nI 1) hx hb dL_law_1349 (by decide) ?_
  refine n_iadd X dL_law_1350 ?_
  refine r_xld X hB hL (by omega) dL_law_1351 ?_
  refine lv_aload_n hx hb dL_law_1352 rfl (lv_at hl 0 rfl) ?_
  refine lv_iload hx hb dL_law_1353 (lv_at hl 4 rfl) ?_
  refine lv_iconst (v := nI 2) hx hb dL_law_1355 (by decide) ?_
  refine n_iadd X dL_law_1356 ?_
  refine r_xld X hB hL (by omega) dL_law_1357 ?_
  refine lv_aload_n hx hb dL_law_1358 rfl (lv_at hl 3 rfl) ?_
  refine Gr.callW (ct_X0_beats l g (FF o) S n st ln hf hs a (xs (i + 1)) (xs (i + 2)) (o + 10) hl0 (FF_u o) (FF_lo hlo)) X hL hl sw_X0_beats q1598 rfl rfl (Nat.le_of_ble_eq_true rfl) dL_law_1359 ⟨by have := hR.1; omega, by have := hR.2; omega⟩ (by omega) (by omega) ⟨hsk, _, hu⟩ (fun r H locs hL hp => ?_)
  obtain ⟨x, hxs, hr, hx3, hnum, ⟨f, hu⟩, hX, hC⟩ := WP.ex hp
  have hW := hW.keepC hC (fun q h1 h2 y => y.elim (fun y => y ⟨h1, by omega⟩) (fun y => by have y : q = o + 10 := y; omega))
  obtain ⟨b0, hv⟩ : ∃ b9, x.2.1 = some (.int (bI b9)) := by rw [hxs]; unfold s_two; split <;> first | exact ⟨false, rfl⟩ | exact ⟨_, rfl⟩
  have hq : x.1 = 0 → Al g (o + 10) 1 (fun _ => (bI b0).toInt64) H := fun h => by obtain ⟨n9, e1, e2⟩ := hnum h; rw [hv] at e1; cases e1; exact e2
  subst hr
  refine lv_istore (lv' := [(5, .int _), (0, .ref _), (1, .ref _), (2, .ref _), (3, .ref _), (4, .int _)]) hx hb dL_law_1362 hl (by decide) rfl (fun ls hl => ?_)
  refine lv_aload_n hx hb dL_law_1364 rfl (lv_at hl 3 rfl) ?_
  refine lv_aload_n hx hb dL_law_1365 rfl (lv_at hl 1 rfl) ?_
  refine lv_iload hx hb dL_law_1366 (lv_at hl 5 rfl) ?_
  refine lv_iconst (v := nI 1) hx hb dL_law_1368 (by decide) ?_
  refine n_iadd X dL_law_1369 ?_
  refine r_xld X hB hL (by omega) dL_law_1370 ?_
  refine lv_aload_n hx hb dL_law_1371 rfl (lv_at hl 1 rfl) ?_
  refine lv_iload hx hb dL_law_1372 (lv_at hl 5 rfl) ?_
  refine lv_iconst (v := nI 2) hx hb dL_law_1374 (by decide) ?_
  refine n_iadd X dL_law_1375 ?_
  refine r_xld X hB hL (by omega) dL_law_1376 ?_
  refine Gr.callV (ct_X5_beats l g o n S (xs (i + 1)) (xs (i + 2)) hN hn) X hL hl vb_X5_beats q2079 (hW.2.1.recv hKV rfl) rfl rfl (Nat.le_of_ble_eq_true rfl) dL_law_1377 ⟨by have := hR.1; omega, by have := hR.2; omega⟩ (by omega) (by omega) hW (fun r H locs hL hp => ?_)
  obtain ⟨S1, hAP, hW, hO⟩ := hp
  obtain ⟨hSc, ht, hr⟩ : AP S1 x r := by rw [hxs]; exact hAP
  have hX := (hX.off hO hKV.gE hlo).sc hSc
  have hu := hu.at (hO.2 _ (Or.inr (by omega)))
  have hq : x.1 = 0 → Al g (o + 10) 1 (fun _ => (bI b0).toInt64) H := fun h => (hq h).at (hO.2 _ (Or.inr (by omega)))
  rw [hv] at hr
  subst hr
  refine lv_istore (lv' := [(6, .int _), (5, .int _), (0, .ref _), (1, .ref _), (2, .ref _), (3, .ref _), (4, .int _)]) hx hb dL_law_1380 hl (by decide) rfl (fun ls hl => ?_)
  refine lv_aload_n hx hb dL_law_1382 rfl (lv_at hl 4 rfl) ?_
  refine Gr.callV (ct_X5_thrown l g o S1) X hL hl vb_X5_thrown q1871 (hW.2.1.recv hKV rfl) rfl rfl (Nat.le_of_ble_eq_true rfl) dL_law_1383 ⟨by have := hR.1; omega, by have := hR.2; omega⟩ (by omega) (by omega) hW (fun r H9 locs hL hp => ?_)
  obtain ⟨rfl, e9⟩ := hp
  cases e9
  refine lv_iload hx hb dL_law_1386 (lv_at hl 1 rfl) ?_
  refine lv_icmp_eq (tgt := 1393) hx hb dL_law_1388 (by decide) (fun c_1388 => ?_) (fun c_1388 => ?_)
  ·
    refine lv_iload hx hb dL_law_1393 (lv_at hl 1 rfl) ?_
    refine n_ifne (tgt := 1417) X dL_law_1395 (by decide) (by omega) (fun c_1395 => ?_) (fun c_1395 => ?_)
    ·
      refine lv_goto (tgt := 2951) hx hb dL_law_1417 (by decide) ?_
      exact W.widen (by omega) (by omega) (kk _ _ _ hL (lv_sub hl [2, 3, 4, 5, 6] rfl) (LI.mk hX hW hu))
    ·
      have hu := hq c_1395
      refine lv_aload_n hx hb dL_law_1398 rfl (lv_at hl 5 rfl) ?_
      refine lv_iconst (v := nI 0) hx hb dL_law_1399 (by decide) ?_
      refine r_lld X hu 0 rfl (by decide) (by decide) dL_law_1400 ?_
      refine lv_iload hx hb dL_law_1401 (lv_at hl 0 rfl) ?_
      refine b_ifeq (tgt := 1410) X dL_law_1403 (by decide) (fun c_1403 => ?_) (fun c_1403 => ?_)
      ·
        refine lv_lconst (v := 0) hx hb dL_law_1410 (by decide) ?_
        refine r_lcmp X dL_law_1411 ?_
        refine lv_if_eq (tgt := 1417) hx hb dL_law_1412 (by decide) (fun c_1412 => ?_) (fun c_1412 => ?_)
        ·
          refine lv_goto (tgt := 2951) hx hb dL_law_1417 (by decide) ?_
          exact W.widen (by omega) (by omega) (kk _ _ _ hL (lv_sub hl [2, 3, 4, 5, 6] rfl) (LI.mk hX hW hu))
        ·
          exact (c_1412 (lcI_0.mpr (by rw [c_1403]; rfl))).elim
      ·
        refine lv_lconst (v := 1) hx hb dL_law_1406 (by decide) ?_
        refine lv_goto (tgt := 1411) hx hb dL_law_1407 (by decide) ?_
        refine r_lcmp X dL_law_1411 ?_
        refine lv_if_eq (tgt := 1417) hx hb dL_law_1412 (by decide) (fun c_1412 => ?_) (fun c_1412 => ?_)
        ·
          refine lv_goto (tgt := 2951) hx hb dL_law_1417 (by decide) ?_
          exact W.widen (by omega) (by omega) (kk _ _ _ hL (lv_sub hl [2, 3, 4, 5, 6] rfl) (LI.mk hX hW hu))
        ·
          exact (c_1412 (lcI_0.mpr (by rw [c_1403]; rfl))).elim
  ·
    exact absurd ht c_1388

set_option maxRecDepth 100000 in
set_option maxHeartbeats 4000000 in
theorem lc_24 (X : Cx p g s m args meth c cL_law 9 (yL nm) ret) (hl0 : l.stackTraces = false) (hB : LB g o b L xs s) (hR : LR R) (hi : i + 4 < L) (hL : ∀ q ∈ locs, gLo g ≤ q.base) (hl : lv_has ls 9 [(0, .ref b), (1, .ref a), (2, .ref o), (3, .ref (o + 10)), (4, .int (nI i))]) (hI : LI g a o H) (hc : cells + 6300 ≤ R.cells) (hsl : slots + 50100 ≤ R.slots)
    (kk : ∀ (H1 : Heap) (locs1 : List Loc) (ls1 : Array Slot), (∀ q ∈ locs1, gLo g ≤ q.base) → lv_has ls1 9 [(0, .ref b), (1, .ref a), (2, .ref o), (3, .ref (o + 10)), (4, .int (nI i))] → LI g a o H1 → W p l e R s m args below meth c H1 locs1 (cells + 6300) (slots + 50100) Q (F0 m 2951 ls1 [])) : W p l e R s m args below meth c H locs cells slots Q (F0 m 1420 ls []) := by
  have hx := X.1
  have hb := X.2.1
  have hKV := X.2.2.2.2.2.2.2.1.1
  have hlo := hB.1
  have hL120 := hB.2.2.2.2
  obtain ⟨⟨S, n, st, ln, hf, hs, hsk, hW⟩, f, hu⟩ := hI
  obtain ⟨hN, hn, hRO, hst, hs6, hln, hl6, hF, hG⟩ := hsk.mi
  refine lv_aload_n hx hb dL_law_1420 rfl (lv_at hl 1 rfl) ?_
  refine lv_aload_n hx hb dL_law_1421 rfl (lv_at hl 0 rfl) ?_
  refine lv_iload hx hb dL_law_1422 (lv_at hl 4 rfl) ?_
  refine lv_iconst (v := nI 1) hx hb dL_law_1424 (by decide) ?_
  refine n_iadd X dL_law_1425 ?_
  refine r_xld X hB hL (by omega) dL_law_1426 ?_
  refine lv_aload_n hx hb dL_law_1427 rfl (lv_at hl 0 rfl) ?_
  refine lv_iload hx hb dL_law_1428 (lv_at hl 4 rfl) ?_
  refine lv_iconst (v := nI 2) hx hb dL_law_1430 (by decide) ?_
  refine n_iadd X dL_law_1431 ?_
  refine r_xld X hB hL (by omega) dL_law_1432 ?_
  refine lv_aload_n hx hb dL_law_1433 rfl (lv_at hl 3 rfl) ?_
  refine Gr.callW (ct_X0_betterOn l g (FF o) S n st ln hf hs a (xs (i + 1)) (xs (i + 2)) (o + 10) hl0 (FF_u o) (FF_lo hlo)) X hL hl sw_X0_betterOn q1606 rfl rfl (Nat.le_of_ble_eq_true rfl) dL_law_1434 ⟨by have := hR.1; omega, by have := hR.2; omega⟩ (by omega) (by omega) ⟨hsk, _, hu⟩ (fun r H locs hL hp => ?_)
  obtain ⟨x, hxs, hr, hx3, hnum, ⟨f, hu⟩, hX, hC⟩ := WP.ex hp
  have hW := hW.keepC hC (fun q h1 h2 y => y.elim (fun y => y ⟨h1, by omega⟩) (fun y => by have y : q = o + 10 := y; omega))
  obtain ⟨v0, hv⟩ : ∃ v9, x.2.1 = some (.int v9) := by rw [hxs]; unfold s_two; (repeat' split) <;> exact ⟨_, rfl⟩
  have hq : x.1 = 0 → Al g (o + 10) 1 (fun _ => v0.toInt64) H := fun h => by obtain ⟨n9, e1, e2⟩ := hnum h; rw [hv] at e1; cases e1; exact e2
  subst hr
  refine lv_istore (lv' := [(5, .int _), (0, .ref _), (1, .ref _), (2, .ref _), (3, .ref _), (4, .int _)]) hx hb dL_law_1437 hl (by decide) rfl (fun ls hl => ?_)
  refine lv_aload_n hx hb dL_law_1439 rfl (lv_at hl 3 rfl) ?_
  refine lv_aload_n hx hb dL_law_1440 rfl (lv_at hl 1 rfl) ?_
  refine lv_iload hx hb dL_law_1441 (lv_at hl 5 rfl) ?_
  refine lv_iconst (v := nI 1) hx hb dL_law_1443 (by decide) ?_
  refine n_iadd X dL_law_1444 ?_
  refine r_xld X hB hL (by omega) dL_law_1445 ?_
  refine lv_aload_n hx hb dL_law_1446 rfl (lv_at hl 1 rfl) ?_
  refine lv_iload hx hb dL_law_1447 (lv_at hl 5 rfl) ?_
  refine lv_iconst (v := nI 2) hx hb dL_law_1449 (by decide) ?_
  refine n_iadd X dL_law_1450 ?_
  refine r_xld X hB hL (by omega) dL_law_1451 ?_
  refine Gr.callV (ct_X5_betterOn l g o n S (xs (i + 1)) (xs (i + 2)) hN hn) X hL hl vb_X5_betterOn q2087 (hW.2.1.recv hKV rfl) rfl rfl (Nat.le_of_ble_eq_true rfl) dL_law_1452 ⟨by have := hR.1; omega, by have := hR.2; omega⟩ (by omega) (by omega) hW (fun r H locs hL hp => ?_)
  obtain ⟨S1, hAP, hW, hO⟩ := hp
  obtain ⟨hSc, ht, hr⟩ : AP S1 x r := by rw [hxs]; exact hAP
  have hX := (hX.off hO hKV.gE hlo).sc hSc
  have hu := hu.at (hO.2 _ (Or.inr (by omega)))
  have hq : x.1 = 0 → Al g (o + 10) 1 (fun _ => v0.toInt64) H := fun h => (hq h).at (hO.2 _ (Or.inr (by omega)))
  rw [hv] at hr
  subst hr
  refine lv_istore (lv' := [(6, .int _), (5, .int _), (0, .ref _), (1, .ref _), (2, .ref _), (3, .ref _), (4, .int _)]) hx hb dL_law_1455 hl (by decide) rfl (fun ls hl => ?_)
  refine lv_aload_n hx hb dL_law_1457 rfl (lv_at hl 4 rfl) ?_
  refine Gr.callV (ct_X5_thrown l g o S1) X hL hl vb_X5_thrown q1871 (hW.2.1.recv hKV rfl) rfl rfl (Nat.le_of_ble_eq_true rfl) dL_law_1458 ⟨by have := hR.1; omega, by have := hR.2; omega⟩ (by omega) (by omega) hW (fun r H9 locs hL hp => ?_)
  obtain ⟨rfl, e9⟩ := hp
  cases e9
  refine lv_iload hx hb dL_law_1461 (lv_at hl 1 rfl) ?_
  refine lv_icmp_eq (tgt := 1468) hx hb dL_law_1463 (by decide) (fun c_1463 => ?_) (fun c_1463 => ?_)
  ·
    refine lv_iload hx hb dL_law_1468 (lv_at hl 1 rfl) ?_
    refine n_ifne (tgt := 1485) X dL_law_1470 (by decide) (by omega) (fun c_1470 => ?_) (fun c_1470 => ?_)
    ·
      refine lv_goto (tgt := 2951) hx hb dL_law_1485 (by decide) ?_
      exact W.widen (by omega) (by omega) (kk _ _ _ hL (lv_sub hl [2, 3, 4, 5, 6] rfl) (LI.mk hX hW hu))
    ·
      have hu := hq c_1470
      refine lv_aload_n hx hb dL_law_1473 rfl (lv_at hl 5 rfl) ?_
      refine lv_iconst (v := nI 0) hx hb dL_law_1474 (by decide) ?_
      refine r_lld X hu 0 rfl (by decide) (by decide) dL_law_1475 ?_
      refine lv_iload hx hb dL_law_1476 (lv_at hl 0 rfl) ?_
      refine lv_i2l hx hb dL_law_1478 rfl ?_
      refine r_lcmp X dL_law_1479 ?_
      refine lv_if_eq (tgt := 1485) hx hb dL_law_1480 (by decide) (fun c_1480 => ?_) (fun c_1480 => ?_)
      ·
        refine lv_goto (tgt := 2951) hx hb dL_law_1485 (by decide) ?_
        exact W.widen (by omega) (by omega) (kk _ _ _ hL (lv_sub hl [2, 3, 4, 5, 6] rfl) (LI.mk hX hW hu))
      ·
        exact (c_1480 (lcI_0.mpr rfl)).elim
  ·
    exact absurd ht c_1463

set_option maxRecDepth 100000 in
set_option maxHeartbeats 4000000 in
theorem lc_25 (X : Cx p g s m args meth c cL_law 9 (yL nm) ret) (hl0 : l.stackTraces = false) (hB : LB g o b L xs s) (hR : LR R) (hi : i + 4 < L) (hL : ∀ q ∈ locs, gLo g ≤ q.base) (hl : lv_has ls 9 [(0, .ref b), (1, .ref a), (2, .ref o), (3, .ref (o + 10)), (4, .int (nI i))]) (hI : LI g a o H) (hc : cells + 6300 ≤ R.cells) (hsl : slots + 50100 ≤ R.slots)
    (kk : ∀ (H1 : Heap) (locs1 : List Loc) (ls1 : Array Slot), (∀ q ∈ locs1, gLo g ≤ q.base) → lv_has ls1 9 [(0, .ref b), (1, .ref a), (2, .ref o), (3, .ref (o + 10)), (4, .int (nI i))] → LI g a o H1 → W p l e R s m args below meth c H1 locs1 (cells + 6300) (slots + 50100) Q (F0 m 2951 ls1 [])) : W p l e R s m args below meth c H locs cells slots Q (F0 m 1488 ls []) := by
  have hx := X.1
  have hb := X.2.1
  have hKV := X.2.2.2.2.2.2.2.1.1
  have hlo := hB.1
  have hL120 := hB.2.2.2.2
  obtain ⟨⟨S, n, st, ln, hf, hs, hsk, hW⟩, f, hu⟩ := hI
  obtain ⟨hN, hn, hRO, hst, hs6, hln, hl6, hF, hG⟩ := hsk.mi
  refine lv_aload_n hx hb dL_law_1488 rfl (lv_at hl 1 rfl) ?_
  refine lv_aload_n hx hb dL_law_1489 rfl (lv_at hl 0 rfl) ?_
  refine lv_iload hx hb dL_law_1490 (lv_at hl 4 rfl) ?_
  refine lv_iconst (v := nI 1) hx hb dL_law_1492 (by decide) ?_
  refine n_iadd X dL_law_1493 ?_
  refine r_xld X hB hL (by omega) dL_law_1494 ?_
  refine lv_aload_n hx hb dL_law_1495 rfl (lv_at hl 3 rfl) ?_
  refine Gr.callW (ct_X0_beatersOf l g (FF o) S n st ln hf hs a (xs (i + 1)) (o + 10) hl0 (FF_u o) (FF_lo hlo)) X hL hl sw_X0_beatersOf q1614 rfl rfl (Nat.le_of_ble_eq_true rfl) dL_law_1496 ⟨by have := hR.1; omega, by have := hR.2; omega⟩ (by omega) (by omega) ⟨hsk, _, hu⟩ (fun r H locs hL hp => ?_)
  obtain ⟨x, hxs, hr, hx3, hnum, ⟨f, hu⟩, hX, hC⟩ := WP.ex hp
  have hW := hW.keepC hC (fun q h1 h2 y => y.elim (fun y => y ⟨h1, by omega⟩) (fun y => by have y : q = o + 10 := y; omega))
  obtain ⟨v0, hv⟩ : ∃ v9, x.2.1 = some (.int v9) := by rw [hxs]; unfold s_one; (repeat' split) <;> exact ⟨_, rfl⟩
  have hq : x.1 = 0 → Al g (o + 10) 1 (fun _ => v0.toInt64) H := fun h => by obtain ⟨n9, e1, e2⟩ := hnum h; rw [hv] at e1; cases e1; exact e2
  subst hr
  refine lv_istore (lv' := [(5, .int _), (0, .ref _), (1, .ref _), (2, .ref _), (3, .ref _), (4, .int _)]) hx hb dL_law_1499 hl (by decide) rfl (fun ls hl => ?_)
  refine lv_aload_n hx hb dL_law_1501 rfl (lv_at hl 3 rfl) ?_
  refine lv_aload_n hx hb dL_law_1502 rfl (lv_at hl 1 rfl) ?_
  refine lv_iload hx hb dL_law_1503 (lv_at hl 5 rfl) ?_
  refine lv_iconst (v := nI 1) hx hb dL_law_1505 (by decide) ?_
  refine n_iadd X dL_law_1506 ?_
  refine r_xld X hB hL (by omega) dL_law_1507 ?_
  refine Gr.callV (ct_X5_beatersOf l g o n S (xs (i + 1)) hN hn) X hL hl vb_X5_beatersOf q2091 (hW.2.1.recv hKV rfl) rfl rfl (Nat.le_of_ble_eq_true rfl) dL_law_1508 ⟨by have := hR.1; omega, by have := hR.2; omega⟩ (by omega) (by omega) hW (fun r H locs hL hp => ?_)
  obtain ⟨S1, hAP, hW, hO⟩ := hp
  obtain ⟨hSc, ht, hr⟩ : AP S1 x r := by rw [hxs]; exact hAP
  have hX := (hX.off hO hKV.gE hlo).sc hSc
  have hu := hu.at (hO.2 _ (Or.inr (by omega)))
  have hq : x.1 = 0 → Al g (o + 10) 1 (fun _ => v0.toInt64) H := fun h => (hq h).at (hO.2 _ (Or.inr (by omega)))
  rw [hv] at hr
  subst hr
  refine lv_istore (lv' := [(6, .int _), (5, .int _), (0, .ref _), (1, .ref _), (2, .ref _), (3, .ref _), (4, .int _)]) hx hb dL_law_1511 hl (by decide) rfl (fun ls hl => ?_)
  refine lv_aload_n hx hb dL_law_1513 rfl (lv_at hl 4 rfl) ?_
  refine Gr.callV (ct_X5_thrown l g o S1) X hL hl vb_X5_thrown q1871 (hW.2.1.recv hKV rfl) rfl rfl (Nat.le_of_ble_eq_true rfl) dL_law_1514 ⟨by have := hR.1; omega, by have := hR.2; omega⟩ (by omega) (by omega) hW (fun r H9 locs hL hp => ?_)
  obtain ⟨rfl, e9⟩ := hp
  cases e9
  refine lv_iload hx hb dL_law_1517 (lv_at hl 1 rfl) ?_
  refine lv_icmp_eq (tgt := 1524) hx hb dL_law_1519 (by decide) (fun c_1519 => ?_) (fun c_1519 => ?_)
  ·
    refine lv_iload hx hb dL_law_1524 (lv_at hl 1 rfl) ?_
    refine n_ifne (tgt := 1541) X dL_law_1526 (by decide) (by omega) (fun c_1526 => ?_) (fun c_1526 => ?_)
    ·
      refine lv_goto (tgt := 2951) hx hb dL_law_1541 (by decide) ?_
      exact W.widen (by omega) (by omega) (kk _ _ _ hL (lv_sub hl [2, 3, 4, 5, 6] rfl) (LI.mk hX hW hu))
    ·
      have hu := hq c_1526
      refine lv_aload_n hx hb dL_law_1529 rfl (lv_at hl 5 rfl) ?_
      refine lv_iconst (v := nI 0) hx hb dL_law_1530 (by decide) ?_
      refine r_lld X hu 0 rfl (by decide) (by decide) dL_law_1531 ?_
      refine lv_iload hx hb dL_law_1532 (lv_at hl 0 rfl) ?_
      refine lv_i2l hx hb dL_law_1534 rfl ?_
      refine r_lcmp X dL_law_1535 ?_
      refine lv_if_eq (tgt := 1541) hx hb dL_law_1536 (by decide) (fun c_1536 => ?_) (fun c_1536 => ?_)
      ·
        refine lv_goto (tgt := 2951) hx hb dL_law_1541 (by decide) ?_
        exact W.widen (by omega) (by omega) (kk _ _ _ hL (lv_sub hl [2, 3, 4, 5, 6] rfl) (LI.mk hX hW hu))
      ·
        exact (c_1536 (lcI_0.mpr rfl)).elim
  ·
    exact absurd ht c_1519

set_option maxRecDepth 100000 in
set_option maxHeartbeats 4000000 in
theorem lc_26 (X : Cx p g s m args meth c cL_law 9 (yL nm) ret) (hl0 : l.stackTraces = false) (hB : LB g o b L xs s) (hR : LR R) (hi : i + 4 < L) (hL : ∀ q ∈ locs, gLo g ≤ q.base) (hl : lv_has ls 9 [(0, .ref b), (1, .ref a), (2, .ref o), (3, .ref (o + 10)), (4, .int (nI i))]) (hI : LI g a o H) (hc : cells + 6300 ≤ R.cells) (hsl : slots + 50100 ≤ R.slots)
    (kk : ∀ (H1 : Heap) (locs1 : List Loc) (ls1 : Array Slot), (∀ q ∈ locs1, gLo g ≤ q.base) → lv_has ls1 9 [(0, .ref b), (1, .ref a), (2, .ref o), (3, .ref (o + 10)), (4, .int (nI i))] → LI g a o H1 → W p l e R s m args below meth c H1 locs1 (cells + 6300) (slots + 50100) Q (F0 m 2951 ls1 [])) : W p l e R s m args below meth c H locs cells slots Q (F0 m 1544 ls []) := by
  have hx := X.1
  have hb := X.2.1
  have hKV := X.2.2.2.2.2.2.2.1.1
  have hlo := hB.1
  have hL120 := hB.2.2.2.2
  obtain ⟨⟨S, n, st, ln, hf, hs, hsk, hW⟩, f, hu⟩ := hI
  obtain ⟨hN, hn, hRO, hst, hs6, hln, hl6, hF, hG⟩ := hsk.mi
  refine lv_aload_n hx hb dL_law_1544 rfl (lv_at hl 1 rfl) ?_
  refine lv_aload_n hx hb dL_law_1545 rfl (lv_at hl 0 rfl) ?_
  refine lv_iload hx hb dL_law_1546 (lv_at hl 4 rfl) ?_
  refine lv_iconst (v := nI 1) hx hb dL_law_1548 (by decide) ?_
  refine n_iadd X dL_law_1549 ?_
  refine r_xld X hB hL (by omega) dL_law_1550 ?_
  refine lv_aload_n hx hb dL_law_1551 rfl (lv_at hl 3 rfl) ?_
  refine Gr.callW (ct_X0_beatenBy l g (FF o) S n st ln hf hs a (xs (i + 1)) (o + 10) hl0 (FF_u o) (FF_lo hlo)) X hL hl sw_X0_beatenBy q1621 rfl rfl (Nat.le_of_ble_eq_true rfl) dL_law_1552 ⟨by have := hR.1; omega, by have := hR.2; omega⟩ (by omega) (by omega) ⟨hsk, _, hu⟩ (fun r H locs hL hp => ?_)
  obtain ⟨x, hxs, hr, hx3, hnum, ⟨f, hu⟩, hX, hC⟩ := WP.ex hp
  have hW := hW.keepC hC (fun q h1 h2 y => y.elim (fun y => y ⟨h1, by omega⟩) (fun y => by have y : q = o + 10 := y; omega))
  obtain ⟨v0, hv⟩ : ∃ v9, x.2.1 = some (.int v9) := by rw [hxs]; unfold s_one; (repeat' split) <;> exact ⟨_, rfl⟩
  have hq : x.1 = 0 → Al g (o + 10) 1 (fun _ => v0.toInt64) H := fun h => by obtain ⟨n9, e1, e2⟩ := hnum h; rw [hv] at e1; cases e1; exact e2
  subst hr
  refine lv_istore (lv' := [(5, .int _), (0, .ref _), (1, .ref _), (2, .ref _), (3, .ref _), (4, .int _)]) hx hb dL_law_1555 hl (by decide) rfl (fun ls hl => ?_)
  refine lv_aload_n hx hb dL_law_1557 rfl (lv_at hl 3 rfl) ?_
  refine lv_aload_n hx hb dL_law_1558 rfl (lv_at hl 1 rfl) ?_
  refine lv_iload hx hb dL_law_1559 (lv_at hl 5 rfl) ?_
  refine lv_iconst (v := nI 1) hx hb dL_law_1561 (by decide) ?_
  refine n_iadd X dL_law_1562 ?_
  refine r_xld X hB hL (by omega) dL_law_1563 ?_
  refine Gr.callV (ct_X5_beatenBy l g o n S (xs (i + 1)) hN hn) X hL hl vb_X5_beatenBy q2099 (hW.2.1.recv hKV rfl) rfl rfl (Nat.le_of_ble_eq_true rfl) dL_law_1564 ⟨by have := hR.1; omega, by have := hR.2; omega⟩ (by omega) (by omega) hW (fun r H locs hL hp => ?_)
  obtain ⟨S1, hAP, hW, hO⟩ := hp
  obtain ⟨hSc, ht, hr⟩ : AP S1 x r := by rw [hxs]; exact hAP
  have hX := (hX.off hO hKV.gE hlo).sc hSc
  have hu := hu.at (hO.2 _ (Or.inr (by omega)))
  have hq : x.1 = 0 → Al g (o + 10) 1 (fun _ => v0.toInt64) H := fun h => (hq h).at (hO.2 _ (Or.inr (by omega)))
  rw [hv] at hr
  subst hr
  refine lv_istore (lv' := [(6, .int _), (5, .int _), (0, .ref _), (1, .ref _), (2, .ref _), (3, .ref _), (4, .int _)]) hx hb dL_law_1567 hl (by decide) rfl (fun ls hl => ?_)
  refine lv_aload_n hx hb dL_law_1569 rfl (lv_at hl 4 rfl) ?_
  refine Gr.callV (ct_X5_thrown l g o S1) X hL hl vb_X5_thrown q1871 (hW.2.1.recv hKV rfl) rfl rfl (Nat.le_of_ble_eq_true rfl) dL_law_1570 ⟨by have := hR.1; omega, by have := hR.2; omega⟩ (by omega) (by omega) hW (fun r H9 locs hL hp => ?_)
  obtain ⟨rfl, e9⟩ := hp
  cases e9
  refine lv_iload hx hb dL_law_1573 (lv_at hl 1 rfl) ?_
  refine lv_icmp_eq (tgt := 1580) hx hb dL_law_1575 (by decide) (fun c_1575 => ?_) (fun c_1575 => ?_)
  ·
    refine lv_iload hx hb dL_law_1580 (lv_at hl 1 rfl) ?_
    refine n_ifne (tgt := 1597) X dL_law_1582 (by decide) (by omega) (fun c_1582 => ?_) (fun c_1582 => ?_)
    ·
      refine lv_goto (tgt := 2951) hx hb dL_law_1597 (by decide) ?_
      exact W.widen (by omega) (by omega) (kk _ _ _ hL (lv_sub hl [2, 3, 4, 5, 6] rfl) (LI.mk hX hW hu))
    ·
      have hu := hq c_1582
      refine lv_aload_n hx hb dL_law_1585 rfl (lv_at hl 5 rfl) ?_
      refine lv_iconst (v := nI 0) hx hb dL_law_1586 (by decide) ?_
      refine r_lld X hu 0 rfl (by decide) (by decide) dL_law_1587 ?_
      refine lv_iload hx hb dL_law_1588 (lv_at hl 0 rfl) ?_
      refine lv_i2l hx hb dL_law_1590 rfl ?_
      refine r_lcmp X dL_law_1591 ?_
      refine lv_if_eq (tgt := 1597) hx hb dL_law_1592 (by decide) (fun c_1592 => ?_) (fun c_1592 => ?_)
      ·
        refine lv_goto (tgt := 2951) hx hb dL_law_1597 (by decide) ?_
        exact W.widen (by omega) (by omega) (kk _ _ _ hL (lv_sub hl [2, 3, 4, 5, 6] rfl) (LI.mk hX hW hu))
      ·
        exact (c_1592 (lcI_0.mpr rfl)).elim
  ·
    exact absurd ht c_1575

set_option maxRecDepth 100000 in
set_option maxHeartbeats 4000000 in
theorem lc_27 (X : Cx p g s m args meth c cL_law 9 (yL nm) ret) (hl0 : l.stackTraces = false) (hB : LB g o b L xs s) (hR : LR R) (hi : i + 4 < L) (hL : ∀ q ∈ locs, gLo g ≤ q.base) (hl : lv_has ls 9 [(0, .ref b), (1, .ref a), (2, .ref o), (3, .ref (o + 10)), (4, .int (nI i))]) (hI : LI g a o H) (hc : cells + 6300 ≤ R.cells) (hsl : slots + 50100 ≤ R.slots)
    (kk : ∀ (H1 : Heap) (locs1 : List Loc) (ls1 : Array Slot), (∀ q ∈ locs1, gLo g ≤ q.base) → lv_has ls1 9 [(0, .ref b), (1, .ref a), (2, .ref o), (3, .ref (o + 10)), (4, .int (nI i))] → LI g a o H1 → W p l e R s m args below meth c H1 locs1 (cells + 6300) (slots + 50100) Q (F0 m 2951 ls1 [])) : W p l e R s m args below meth c H locs cells slots Q (F0 m 1600 ls []) := by
  have hx := X.1
  have hb := X.2.1
  have hKV := X.2.2.2.2.2.2.2.1.1
  have hlo := hB.1
  have hL120 := hB.2.2.2.2
  obtain ⟨⟨S, n, st, ln, hf, hs, hsk, hW⟩, f, hu⟩ := hI
  obtain ⟨hN, hn, hRO, hst, hs6, hln, hl6, hF, hG⟩ := hsk.mi
  refine lv_aload_n hx hb dL_law_1600 rfl (lv_at hl 1 rfl) ?_
  refine lv_aload_n hx hb dL_law_1601 rfl (lv_at hl 0 rfl) ?_
  refine lv_iload hx hb dL_law_1602 (lv_at hl 4 rfl) ?_
  refine lv_iconst (v := nI 1) hx hb dL_law_1604 (by decide) ?_
  refine n_iadd X dL_law_1605 ?_
  refine r_xld X hB hL (by omega) dL_law_1606 ?_
  refine lv_aload_n hx hb dL_law_1607 rfl (lv_at hl 3 rfl) ?_
  refine Gr.callW (ct_X0_isToldByPairs l g (FF o) S n st ln hf hs a (xs (i + 1)) (o + 10) hl0 (FF_u o) (FF_lo hlo)) X hL hl sw_X0_isToldByPairs q1628 rfl rfl (Nat.le_of_ble_eq_true rfl) dL_law_1608 ⟨by have := hR.1; omega, by have := hR.2; omega⟩ (by omega) (by omega) ⟨hsk, _, hu⟩ (fun r H locs hL hp => ?_)
  obtain ⟨x, hxs, hr, hx3, hnum, ⟨f, hu⟩, hX, hC⟩ := WP.ex hp
  have hW := hW.keepC hC (fun q h1 h2 y => y.elim (fun y => y ⟨h1, by omega⟩) (fun y => by have y : q = o + 10 := y; omega))
  obtain ⟨b0, hv⟩ : ∃ b9, x.2.1 = some (.int (bI b9)) := by rw [hxs]; unfold s_one; split <;> first | exact ⟨false, rfl⟩ | exact ⟨_, rfl⟩
  have hq : x.1 = 0 → Al g (o + 10) 1 (fun _ => (bI b0).toInt64) H := fun h => by obtain ⟨n9, e1, e2⟩ := hnum h; rw [hv] at e1; cases e1; exact e2
  subst hr
  refine lv_istore (lv' := [(5, .int _), (0, .ref _), (1, .ref _), (2, .ref _), (3, .ref _), (4, .int _)]) hx hb dL_law_1611 hl (by decide) rfl (fun ls hl => ?_)
  refine lv_aload_n hx hb dL_law_1613 rfl (lv_at hl 3 rfl) ?_
  refine lv_aload_n hx hb dL_law_1614 rfl (lv_at hl 1 rfl) ?_
  refine lv_iload hx hb dL_law_1615 (lv_at hl 5 rfl) ?_
  refine lv_iconst (v := nI 1) hx hb dL_law_1617 (by decide) ?_
  refine n_iadd X dL_law_1618 ?_
  refine r_xld X hB hL (by omega) dL_law_1619 ?_
  refine Gr.callV (ct_X5_isToldByPairs l g o n S (xs (i + 1)) hN hn) X hL hl vb_X5_isToldByPairs q2107 (hW.2.1.recv hKV rfl) rfl rfl (Nat.le_of_ble_eq_true rfl) dL_law_1620 ⟨by have := hR.1; omega, by have := hR.2; omega⟩ (by omega) (by omega) hW (fun r H locs hL hp => ?_)
  obtain ⟨S1, hAP, hW, hO⟩ := hp
  obtain ⟨hSc, ht, hr⟩ : AP S1 x r := by rw [hxs]; exact hAP
  have hX := (hX.off hO hKV.gE hlo).sc hSc
  have hu := hu.at (hO.2 _ (Or.inr (by omega)))
  have hq : x.1 = 0 → Al g (o + 10) 1 (fun _ => (bI b0).toInt64) H := fun h => (hq h).at (hO.2 _ (Or.inr (by omega)))
  rw [hv] at hr
  subst hr
  refine lv_istore (lv' := [(6, .int _), (5, .int _), (0, .ref _), (1, .ref _), (2, .ref _), (3, .ref _), (4, .int _)]) hx hb dL_law_1623 hl (by decide) rfl (fun ls hl => ?_)
  refine lv_aload_n hx hb dL_law_1625 rfl (lv_at hl 4 rfl) ?_
  refine Gr.callV (ct_X5_thrown l g o S1) X hL hl vb_X5_thrown q1871 (hW.2.1.recv hKV rfl) rfl rfl (Nat.le_of_ble_eq_true rfl) dL_law_1626 ⟨by have := hR.1; omega, by have := hR.2; omega⟩ (by omega) (by omega) hW (fun r H9 locs hL hp => ?_)
  obtain ⟨rfl, e9⟩ := hp
  cases e9
  refine lv_iload hx hb dL_law_1629 (lv_at hl 1 rfl) ?_
  refine lv_icmp_eq (tgt := 1636) hx hb dL_law_1631 (by decide) (fun c_1631 => ?_) (fun c_1631 => ?_)
  ·
    refine lv_iload hx hb dL_law_1636 (lv_at hl 1 rfl) ?_
    refine n_ifne (tgt := 1660) X dL_law_1638 (by decide) (by omega) (fun c_1638 => ?_) (fun c_1638 => ?_)
    ·
      refine lv_goto (tgt := 2951) hx hb dL_law_1660 (by decide) ?_
      exact W.widen (by omega) (by omega) (kk _ _ _ hL (lv_sub hl [2, 3, 4, 5, 6] rfl) (LI.mk hX hW hu))
    ·
      have hu := hq c_1638
      refine lv_aload_n hx hb dL_law_1641 rfl (lv_at hl 5 rfl) ?_
      refine lv_iconst (v := nI 0) hx hb dL_law_1642 (by decide) ?_
      refine r_lld X hu 0 rfl (by decide) (by decide) dL_law_1643 ?_
      refine lv_iload hx hb dL_law_1644 (lv_at hl 0 rfl) ?_
      refine b_ifeq (tgt := 1653) X dL_law_1646 (by decide) (fun c_1646 => ?_) (fun c_1646 => ?_)
      ·
        refine lv_lconst (v := 0) hx hb dL_law_1653 (by decide) ?_
        refine r_lcmp X dL_law_1654 ?_
        refine lv_if_eq (tgt := 1660) hx hb dL_law_1655 (by decide) (fun c_1655 => ?_) (fun c_1655 => ?_)
        ·
          refine lv_goto (tgt := 2951) hx hb dL_law_1660 (by decide) ?_
          exact W.widen (by omega) (by omega) (kk _ _ _ hL (lv_sub hl [2, 3, 4, 5, 6] rfl) (LI.mk hX hW hu))
        ·
          exact (c_1655 (lcI_0.mpr (by rw [c_1646]; rfl))).elim
      ·
        refine lv_lconst (v := 1) hx hb dL_law_1649 (by decide) ?_
        refine lv_goto (tgt := 1654) hx hb dL_law_1650 (by decide) ?_
        refine r_lcmp X dL_law_1654 ?_
        refine lv_if_eq (tgt := 1660) hx hb dL_law_1655 (by decide) (fun c_1655 => ?_) (fun c_1655 => ?_)
        ·
          refine lv_goto (tgt := 2951) hx hb dL_law_1660 (by decide) ?_
          exact W.widen (by omega) (by omega) (kk _ _ _ hL (lv_sub hl [2, 3, 4, 5, 6] rfl) (LI.mk hX hW hu))
        ·
          exact (c_1655 (lcI_0.mpr (by rw [c_1646]; rfl))).elim
  ·
    exact absurd ht c_1631

set_option maxRecDepth 100000 in
set_option maxHeartbeats 4000000 in
theorem lc_28 (X : Cx p g s m args meth c cL_law 9 (yL nm) ret) (hl0 : l.stackTraces = false) (hB : LB g o b L xs s) (hR : LR R) (hi : i + 4 < L) (hL : ∀ q ∈ locs, gLo g ≤ q.base) (hl : lv_has ls 9 [(0, .ref b), (1, .ref a), (2, .ref o), (3, .ref (o + 10)), (4, .int (nI i))]) (hI : LI g a o H) (hc : cells + 6300 ≤ R.cells) (hsl : slots + 50100 ≤ R.slots)
    (kk : ∀ (H1 : Heap) (locs1 : List Loc) (ls1 : Array Slot), (∀ q ∈ locs1, gLo g ≤ q.base) → lv_has ls1 9 [(0, .ref b), (1, .ref a), (2, .ref o), (3, .ref (o + 10)), (4, .int (nI i))] → LI g a o H1 → W p l e R s m args below meth c H1 locs1 (cells + 6300) (slots + 50100) Q (F0 m 2951 ls1 [])) : W p l e R s m args below meth c H locs cells slots Q (F0 m 1663 ls []) := by
  have hx := X.1
  have hb := X.2.1
  have hKV := X.2.2.2.2.2.2.2.1.1
  have hlo := hB.1
  have hL120 := hB.2.2.2.2
  obtain ⟨⟨S, n, st, ln, hf, hs, hsk, hW⟩, f, hu⟩ := hI
  obtain ⟨hN, hn, hRO, hst, hs6, hln, hl6, hF, hG⟩ := hsk.mi
  refine lv_aload_n hx hb dL_law_1663 rfl (lv_at hl 1 rfl) ?_
  refine lv_aload_n hx hb dL_law_1664 rfl (lv_at hl 0 rfl) ?_
  refine lv_iload hx hb dL_law_1665 (lv_at hl 4 rfl) ?_
  refine lv_iconst (v := nI 1) hx hb dL_law_1667 (by decide) ?_
  refine n_iadd X dL_law_1668 ?_
  refine r_xld X hB hL (by omega) dL_law_1669 ?_
  refine lv_aload_n hx hb dL_law_1670 rfl (lv_at hl 3 rfl) ?_
  refine Gr.callW (ct_X0_isToldByWindow l g (FF o) S n st ln hf hs a (xs (i + 1)) (o + 10) hl0 (FF_u o) (FF_lo hlo)) X hL hl sw_X0_isToldByWindow q1635 rfl rfl (Nat.le_of_ble_eq_true rfl) dL_law_1671 ⟨by have := hR.1; omega, by have := hR.2; omega⟩ (by omega) (by omega) ⟨hsk, _, hu⟩ (fun r H locs hL hp => ?_)
  obtain ⟨x, hxs, hr, hx3, hnum, ⟨f, hu⟩, hX, hC⟩ := WP.ex hp
  have hW := hW.keepC hC (fun q h1 h2 y => y.elim (fun y => y ⟨h1, by omega⟩) (fun y => by have y : q = o + 10 := y; omega))
  obtain ⟨b0, hv⟩ : ∃ b9, x.2.1 = some (.int (bI b9)) := by rw [hxs]; unfold s_one; split <;> first | exact ⟨false, rfl⟩ | exact ⟨_, rfl⟩
  have hq : x.1 = 0 → Al g (o + 10) 1 (fun _ => (bI b0).toInt64) H := fun h => by obtain ⟨n9, e1, e2⟩ := hnum h; rw [hv] at e1; cases e1; exact e2
  subst hr
  refine lv_istore (lv' := [(5, .int _), (0, .ref _), (1, .ref _), (2, .ref _), (3, .ref _), (4, .int _)]) hx hb dL_law_1674 hl (by decide) rfl (fun ls hl => ?_)
  refine lv_aload_n hx hb dL_law_1676 rfl (lv_at hl 3 rfl) ?_
  refine lv_aload_n hx hb dL_law_1677 rfl (lv_at hl 1 rfl) ?_
  refine lv_iload hx hb dL_law_1678 (lv_at hl 5 rfl) ?_
  refine lv_iconst (v := nI 1) hx hb dL_law_1680 (by decide) ?_
  refine n_iadd X dL_law_1681 ?_
  refine r_xld X hB hL (by omega) dL_law_1682 ?_
  refine Gr.callV (ct_X5_isToldByWindow l g o n S (xs (i + 1)) hN hn) X hL hl vb_X5_isToldByWindow q2115 (hW.2.1.recv hKV rfl) rfl rfl (Nat.le_of_ble_eq_true rfl) dL_law_1683 ⟨by have := hR.1; omega, by have := hR.2; omega⟩ (by omega) (by omega) hW (fun r H locs hL hp => ?_)
  obtain ⟨S1, hAP, hW, hO⟩ := hp
  obtain ⟨hSc, ht, hr⟩ : AP S1 x r := by rw [hxs]; exact hAP
  have hX := (hX.off hO hKV.gE hlo).sc hSc
  have hu := hu.at (hO.2 _ (Or.inr (by omega)))
  have hq : x.1 = 0 → Al g (o + 10) 1 (fun _ => (bI b0).toInt64) H := fun h => (hq h).at (hO.2 _ (Or.inr (by omega)))
  rw [hv] at hr
  subst hr
  refine lv_istore (lv' := [(6, .int _), (5, .int _), (0, .ref _), (1, .ref _), (2, .ref _), (3, .ref _), (4, .int _)]) hx hb dL_law_1686 hl (by decide) rfl (fun ls hl => ?_)
  refine lv_aload_n hx hb dL_law_1688 rfl (lv_at hl 4 rfl) ?_
  refine Gr.callV (ct_X5_thrown l g o S1) X hL hl vb_X5_thrown q1871 (hW.2.1.recv hKV rfl) rfl rfl (Nat.le_of_ble_eq_true rfl) dL_law_1689 ⟨by have := hR.1; omega, by have := hR.2; omega⟩ (by omega) (by omega) hW (fun r H9 locs hL hp => ?_)
  obtain ⟨rfl, e9⟩ := hp
  cases e9
  refine lv_iload hx hb dL_law_1692 (lv_at hl 1 rfl) ?_
  refine lv_icmp_eq (tgt := 1699) hx hb dL_law_1694 (by decide) (fun c_1694 => ?_) (fun c_1694 => ?_)
  ·
    refine lv_iload hx hb dL_law_1699 (lv_at hl 1 rfl) ?_
    refine n_ifne (tgt := 1723) X dL_law_1701 (by decide) (by omega) (fun c_1701 => ?_) (fun c_1701 => ?_)
    ·
      refine lv_goto (tgt := 2951) hx hb dL_law_1723 (by decide) ?_
      exact W.widen (by omega) (by omega) (kk _ _ _ hL (lv_sub hl [2, 3, 4, 5, 6] rfl) (LI.mk hX hW hu))
    ·
      have hu := hq c_1701
      refine lv_aload_n hx hb dL_law_1704 rfl (lv_at hl 5 rfl) ?_
      refine lv_iconst (v := nI 0) hx hb dL_law_1705 (by decide) ?_
      refine r_lld X hu 0 rfl (by decide) (by decide) dL_law_1706 ?_
      refine lv_iload hx hb dL_law_1707 (lv_at hl 0 rfl) ?_
      refine b_ifeq (tgt := 1716) X dL_law_1709 (by decide) (fun c_1709 => ?_) (fun c_1709 => ?_)
      ·
        refine lv_lconst (v := 0) hx hb dL_law_1716 (by decide) ?_
        refine r_lcmp X dL_law_1717 ?_
        refine lv_if_eq (tgt := 1723) hx hb dL_law_1718 (by decide) (fun c_1718 => ?_) (fun c_1718 => ?_)
        ·
          refine lv_goto (tgt := 2951) hx hb dL_law_1723 (by decide) ?_
          exact W.widen (by omega) (by omega) (kk _ _ _ hL (lv_sub hl [2, 3, 4, 5, 6] rfl) (LI.mk hX hW hu))
        ·
          exact (c_1718 (lcI_0.mpr (by rw [c_1709]; rfl))).elim
      ·
        refine lv_lconst (v := 1) hx hb dL_law_1712 (by decide) ?_
        refine lv_goto (tgt := 1717) hx hb dL_law_1713 (by decide) ?_
        refine r_lcmp X dL_law_1717 ?_
        refine lv_if_eq (tgt := 1723) hx hb dL_law_1718 (by decide) (fun c_1718 => ?_) (fun c_1718 => ?_)
        ·
          refine lv_goto (tgt := 2951) hx hb dL_law_1723 (by decide) ?_
          exact W.widen (by omega) (by omega) (kk _ _ _ hL (lv_sub hl [2, 3, 4, 5, 6] rfl) (LI.mk hX hW hu))
        ·
          exact (c_1718 (lcI_0.mpr (by rw [c_1709]; rfl))).elim
  ·
    exact absurd ht c_1694

set_option maxRecDepth 100000 in
set_option maxHeartbeats 4000000 in
theorem lc_29 (X : Cx p g s m args meth c cL_law 9 (yL nm) ret) (hl0 : l.stackTraces = false) (hB : LB g o b L xs s) (hR : LR R) (hi : i + 4 < L) (hL : ∀ q ∈ locs, gLo g ≤ q.base) (hl : lv_has ls 9 [(0, .ref b), (1, .ref a), (2, .ref o), (3, .ref (o + 10)), (4, .int (nI i))]) (hI : LI g a o H) (hc : cells + 6300 ≤ R.cells) (hsl : slots + 50100 ≤ R.slots)
    (kk : ∀ (H1 : Heap) (locs1 : List Loc) (ls1 : Array Slot), (∀ q ∈ locs1, gLo g ≤ q.base) → lv_has ls1 9 [(0, .ref b), (1, .ref a), (2, .ref o), (3, .ref (o + 10)), (4, .int (nI i))] → LI g a o H1 → W p l e R s m args below meth c H1 locs1 (cells + 6300) (slots + 50100) Q (F0 m 2951 ls1 [])) : W p l e R s m args below meth c H locs cells slots Q (F0 m 1726 ls []) := by
  have hx := X.1
  have hb := X.2.1
  have hKV := X.2.2.2.2.2.2.2.1.1
  have hlo := hB.1
  have hL120 := hB.2.2.2.2
  obtain ⟨⟨S, n, st, ln, hf, hs, hsk, hW⟩, f, hu⟩ := hI
  obtain ⟨hN, hn, hRO, hst, hs6, hln, hl6, hF, hG⟩ := hsk.mi
  refine lv_aload_n hx hb dL_law_1726 rfl (lv_at hl 1 rfl) ?_
  refine Gr.callV (ct_X1_toldByPairs l g (FF o) S n st ln hf hs a) X hL hl vb_X1_toldByPairs q999 (hsk.recv hKV) rfl rfl (Nat.le_of_ble_eq_true rfl) dL_law_1727 ⟨by have := hR.1; omega, by have := hR.2; omega⟩ (by omega) (by omega) hsk (fun r H1 locs hL hp => ?_)
  obtain ⟨x, hxs, h0, hr, hE⟩ := OQ.ex hp
  have hX : SkX g (FF o) x.2.2 a H1 := by rw [show x.2.2 = S from by rw [hxs]; rfl]; exact (hsk.ext hE).x
  have hC : Chg (fun q => ¬ FF o q) H H1 := hE.chg
  have hu := hu.chg hC (fun y => y (FF_u o))
  have hW := hW.keepC hC (fun q h1 h2 y => y ⟨h1, by omega⟩)
  obtain ⟨v0, hv⟩ : ∃ v9, x.2.1 = some (.int v9) := by rw [hxs]; exact ⟨_, rfl⟩
  rw [hv] at hr
  subst hr
  refine lv_aload_n hx hb dL_law_1730 rfl (lv_at hl 2 rfl) ?_
  refine Gr.callV (ct_X5_toldByPairs l g o n S hN hn) X hL hl vb_X5_toldByPairs q2119 (hW.2.1.recv hKV rfl) rfl rfl (Nat.le_of_ble_eq_true rfl) dL_law_1731 ⟨by have := hR.1; omega, by have := hR.2; omega⟩ (by omega) (by omega) hW (fun r H locs hL hp => ?_)
  obtain ⟨S1, hAP, hW, hO⟩ := hp
  obtain ⟨hSc, ht, hr⟩ : AP S1 x r := by rw [hxs]; exact hAP
  have hX := (hX.off hO hKV.gE hlo).sc hSc
  have hu := hu.at (hO.2 _ (Or.inr (by omega)))
  rw [hv] at hr
  subst hr
  refine lv_icmp_eq (tgt := 2951) hx hb dL_law_1734 (by decide) (fun c_1734 => ?_) (fun c_1734 => ?_)
  ·
    exact W.widen (by omega) (by omega) (kk _ _ _ hL (lv_sub hl [0, 1, 2, 3, 4] rfl) (LI.mk hX hW hu))
  ·
    exact absurd rfl c_1734

set_option maxRecDepth 100000 in
set_option maxHeartbeats 4000000 in
theorem lc_30 (X : Cx p g s m args meth c cL_law 9 (yL nm) ret) (hl0 : l.stackTraces = false) (hB : LB g o b L xs s) (hR : LR R) (hi : i + 4 < L) (hL : ∀ q ∈ locs, gLo g ≤ q.base) (hl : lv_has ls 9 [(0, .ref b), (1, .ref a), (2, .ref o), (3, .ref (o + 10)), (4, .int (nI i))]) (hI : LI g a o H) (hc : cells + 6300 ≤ R.cells) (hsl : slots + 50100 ≤ R.slots)
    (kk : ∀ (H1 : Heap) (locs1 : List Loc) (ls1 : Array Slot), (∀ q ∈ locs1, gLo g ≤ q.base) → lv_has ls1 9 [(0, .ref b), (1, .ref a), (2, .ref o), (3, .ref (o + 10)), (4, .int (nI i))] → LI g a o H1 → W p l e R s m args below meth c H1 locs1 (cells + 6300) (slots + 50100) Q (F0 m 2951 ls1 [])) : W p l e R s m args below meth c H locs cells slots Q (F0 m 1739 ls []) := by
  have hx := X.1
  have hb := X.2.1
  have hKV := X.2.2.2.2.2.2.2.1.1
  have hlo := hB.1
  have hL120 := hB.2.2.2.2
  obtain ⟨⟨S, n, st, ln, hf, hs, hsk, hW⟩, f, hu⟩ := hI
  obtain ⟨hN, hn, hRO, hst, hs6, hln, hl6, hF, hG⟩ := hsk.mi
  refine lv_aload_n hx hb dL_law_1739 rfl (lv_at hl 1 rfl) ?_
  refine Gr.callV (ct_X1_toldBySums l g (FF o) S n st ln hf hs a) X hL hl vb_X1_toldBySums q1008 (hsk.recv hKV) rfl rfl (Nat.le_of_ble_eq_true rfl) dL_law_1740 ⟨by have := hR.1; omega, by have := hR.2; omega⟩ (by omega) (by omega) hsk (fun r H1 locs hL hp => ?_)
  obtain ⟨x, hxs, h0, hr, hE⟩ := OQ.ex hp
  have hX : SkX g (FF o) x.2.2 a H1 := by rw [show x.2.2 = S from by rw [hxs]; rfl]; exact (hsk.ext hE).x
  have hC : Chg (fun q => ¬ FF o q) H H1 := hE.chg
  have hu := hu.chg hC (fun y => y (FF_u o))
  have hW := hW.keepC hC (fun q h1 h2 y => y ⟨h1, by omega⟩)
  obtain ⟨v0, hv⟩ : ∃ v9, x.2.1 = some (.int v9) := by rw [hxs]; exact ⟨_, rfl⟩
  rw [hv] at hr
  subst hr
  refine lv_aload_n hx hb dL_law_1743 rfl (lv_at hl 2 rfl) ?_
  refine Gr.callV (ct_X5_toldBySums l g o n S hN hn) X hL hl vb_X5_toldBySums q2123 (hW.2.1.recv hKV rfl) rfl rfl (Nat.le_of_ble_eq_true rfl) dL_law_1744 ⟨by have := hR.1; omega, by have := hR.2; omega⟩ (by omega) (by omega) hW (fun r H locs hL hp => ?_)
  obtain ⟨S1, hAP, hW, hO⟩ := hp
  obtain ⟨hSc, ht, hr⟩ : AP S1 x r := by rw [hxs]; exact hAP
  have hX := (hX.off hO hKV.gE hlo).sc hSc
  have hu := hu.at (hO.2 _ (Or.inr (by omega)))
  rw [hv] at hr
  subst hr
  refine lv_icmp_eq (tgt := 2951) hx hb dL_law_1747 (by decide) (fun c_1747 => ?_) (fun c_1747 => ?_)
  ·
    exact W.widen (by omega) (by omega) (kk _ _ _ hL (lv_sub hl [0, 1, 2, 3, 4] rfl) (LI.mk hX hW hu))
  ·
    exact absurd rfl c_1747

set_option maxRecDepth 100000 in
set_option maxHeartbeats 4000000 in
theorem lc_31 (X : Cx p g s m args meth c cL_law 9 (yL nm) ret) (hl0 : l.stackTraces = false) (hB : LB g o b L xs s) (hR : LR R) (hi : i + 4 < L) (hL : ∀ q ∈ locs, gLo g ≤ q.base) (hl : lv_has ls 9 [(0, .ref b), (1, .ref a), (2, .ref o), (3, .ref (o + 10)), (4, .int (nI i))]) (hI : LI g a o H) (hc : cells + 6300 ≤ R.cells) (hsl : slots + 50100 ≤ R.slots)
    (kk : ∀ (H1 : Heap) (locs1 : List Loc) (ls1 : Array Slot), (∀ q ∈ locs1, gLo g ≤ q.base) → lv_has ls1 9 [(0, .ref b), (1, .ref a), (2, .ref o), (3, .ref (o + 10)), (4, .int (nI i))] → LI g a o H1 → W p l e R s m args below meth c H1 locs1 (cells + 6300) (slots + 50100) Q (F0 m 2951 ls1 [])) : W p l e R s m args below meth c H locs cells slots Q (F0 m 1752 ls []) := by
  have hx := X.1
  have hb := X.2.1
  have hKV := X.2.2.2.2.2.2.2.1.1
  have hlo := hB.1
  have hL120 := hB.2.2.2.2
  obtain ⟨⟨S, n, st, ln, hf, hs, hsk, hW⟩, f, hu⟩ := hI
  obtain ⟨hN, hn, hRO, hst, hs6, hln, hl6, hF, hG⟩ := hsk.mi
  refine lv_aload_n hx hb dL_law_1752 rfl (lv_at hl 1 rfl) ?_
  refine lv_aload_n hx hb dL_law_1753 rfl (lv_at hl 0 rfl) ?_
  refine lv_iload hx hb dL_law_1754 (lv_at hl 4 rfl) ?_
  refine lv_iconst (v := nI 1) hx hb dL_law_1756 (by decide) ?_
  refine n_iadd X dL_law_1757 ?_
  refine r_xld X hB hL (by omega) dL_law_1758 ?_
  refine lv_aload_n hx hb dL_law_1759 rfl (lv_at hl 3 rfl) ?_
  refine Gr.callW (ct_X0_toldAt l g (FF o) S n st ln hf hs a (xs (i + 1)) (o + 10) hl0 (FF_u o) (FF_lo hlo)) X hL hl sw_X0_toldAt q1642 rfl rfl (Nat.le_of_ble_eq_true rfl) dL_law_1760 ⟨by have := hR.1; omega, by have := hR.2; omega⟩ (by omega) (by omega) ⟨hsk, _, hu⟩ (fun r H locs hL hp => ?_)
  obtain ⟨x, hxs, hr, hx3, hnum, ⟨f, hu⟩, hX, hC⟩ := WP.ex hp
  have hW := hW.keepC hC (fun q h1 h2 y => y.elim (fun y => y ⟨h1, by omega⟩) (fun y => by have y : q = o + 10 := y; omega))
  obtain ⟨v0, hv⟩ : ∃ v9, x.2.1 = some (.int v9) := by rw [hxs]; unfold s_fst; (repeat' split) <;> exact ⟨_, rfl⟩
  have hq : x.1 = 0 → Al g (o + 10) 1 (fun _ => v0.toInt64) H := fun h => by obtain ⟨n9, e1, e2⟩ := hnum h; rw [hv] at e1; cases e1; exact e2
  subst hr
  refine lv_istore (lv' := [(5, .int _), (0, .ref _), (1, .ref _), (2, .ref _), (3, .ref _), (4, .int _)]) hx hb dL_law_1763 hl (by decide) rfl (fun ls hl => ?_)
  refine lv_aload_n hx hb dL_law_1765 rfl (lv_at hl 3 rfl) ?_
  refine lv_aload_n hx hb dL_law_1766 rfl (lv_at hl 1 rfl) ?_
  refine lv_iload hx hb dL_law_1767 (lv_at hl 5 rfl) ?_
  refine lv_iconst (v := nI 1) hx hb dL_law_1769 (by decide) ?_
  refine n_iadd X dL_law_1770 ?_
  refine r_xld X hB hL (by omega) dL_law_1771 ?_
  refine Gr.callV (ct_X5_toldAt l g o n S (xs (i + 1)) hN hn) X hL hl vb_X5_toldAt q2127 (hW.2.1.recv hKV rfl) rfl rfl (Nat.le_of_ble_eq_true rfl) dL_law_1772 ⟨by have := hR.1; omega, by have := hR.2; omega⟩ (by omega) (by omega) hW (fun r H locs hL hp => ?_)
  obtain ⟨S1, hAP, hW, hO⟩ := hp
  obtain ⟨hSc, ht, hr⟩ : AP S1 x r := by rw [hxs]; exact hAP
  have hX := (hX.off hO hKV.gE hlo).sc hSc
  have hu := hu.at (hO.2 _ (Or.inr (by omega)))
  have hq : x.1 = 0 → Al g (o + 10) 1 (fun _ => v0.toInt64) H := fun h => (hq h).at (hO.2 _ (Or.inr (by omega)))
  rw [hv] at hr
  subst hr
  refine lv_istore (lv' := [(6, .int _), (5, .int _), (0, .ref _), (1, .ref _), (2, .ref _), (3, .ref _), (4, .int _)]) hx hb dL_law_1775 hl (by decide) rfl (fun ls hl => ?_)
  refine lv_aload_n hx hb dL_law_1777 rfl (lv_at hl 4 rfl) ?_
  refine Gr.callV (ct_X5_thrown l g o S1) X hL hl vb_X5_thrown q1871 (hW.2.1.recv hKV rfl) rfl rfl (Nat.le_of_ble_eq_true rfl) dL_law_1778 ⟨by have := hR.1; omega, by have := hR.2; omega⟩ (by omega) (by omega) hW (fun r H9 locs hL hp => ?_)
  obtain ⟨rfl, e9⟩ := hp
  cases e9
  refine lv_iload hx hb dL_law_1781 (lv_at hl 1 rfl) ?_
  refine lv_icmp_eq (tgt := 1788) hx hb dL_law_1783 (by decide) (fun c_1783 => ?_) (fun c_1783 => ?_)
  ·
    refine lv_iload hx hb dL_law_1788 (lv_at hl 1 rfl) ?_
    refine n_ifne (tgt := 1805) X dL_law_1790 (by decide) (by omega) (fun c_1790 => ?_) (fun c_1790 => ?_)
    ·
      refine lv_goto (tgt := 2951) hx hb dL_law_1805 (by decide) ?_
      exact W.widen (by omega) (by omega) (kk _ _ _ hL (lv_sub hl [2, 3, 4, 5, 6] rfl) (LI.mk hX hW hu))
    ·
      have hu := hq c_1790
      refine lv_aload_n hx hb dL_law_1793 rfl (lv_at hl 5 rfl) ?_
      refine lv_iconst (v := nI 0) hx hb dL_law_1794 (by decide) ?_
      refine r_lld X hu 0 rfl (by decide) (by decide) dL_law_1795 ?_
      refine lv_iload hx hb dL_law_1796 (lv_at hl 0 rfl) ?_
      refine lv_i2l hx hb dL_law_1798 rfl ?_
      refine r_lcmp X dL_law_1799 ?_
      refine lv_if_eq (tgt := 1805) hx hb dL_law_1800 (by decide) (fun c_1800 => ?_) (fun c_1800 => ?_)
      ·
        refine lv_goto (tgt := 2951) hx hb dL_law_1805 (by decide) ?_
        exact W.widen (by omega) (by omega) (kk _ _ _ hL (lv_sub hl [2, 3, 4, 5, 6] rfl) (LI.mk hX hW hu))
      ·
        exact (c_1800 (lcI_0.mpr rfl)).elim
  ·
    exact absurd ht c_1783

set_option maxRecDepth 100000 in
set_option maxHeartbeats 4000000 in
theorem lc_32 (X : Cx p g s m args meth c cL_law 9 (yL nm) ret) (hl0 : l.stackTraces = false) (hB : LB g o b L xs s) (hR : LR R) (hi : i + 4 < L) (hL : ∀ q ∈ locs, gLo g ≤ q.base) (hl : lv_has ls 9 [(0, .ref b), (1, .ref a), (2, .ref o), (3, .ref (o + 10)), (4, .int (nI i))]) (hI : LI g a o H) (hc : cells + 6300 ≤ R.cells) (hsl : slots + 50100 ≤ R.slots)
    (kk : ∀ (H1 : Heap) (locs1 : List Loc) (ls1 : Array Slot), (∀ q ∈ locs1, gLo g ≤ q.base) → lv_has ls1 9 [(0, .ref b), (1, .ref a), (2, .ref o), (3, .ref (o + 10)), (4, .int (nI i))] → LI g a o H1 → W p l e R s m args below meth c H1 locs1 (cells + 6300) (slots + 50100) Q (F0 m 2951 ls1 [])) : W p l e R s m args below meth c H locs cells slots Q (F0 m 1808 ls []) := by
  have hx := X.1
  have hb := X.2.1
  have hKV := X.2.2.2.2.2.2.2.1.1
  have hlo := hB.1
  have hL120 := hB.2.2.2.2
  obtain ⟨⟨S, n, st, ln, hf, hs, hsk, hW⟩, f, hu⟩ := hI
  obtain ⟨hN, hn, hRO, hst, hs6, hln, hl6, hF, hG⟩ := hsk.mi
  refine lv_aload_n hx hb dL_law_1808 rfl (lv_at hl 1 rfl) ?_
  refine lv_aload_n hx hb dL_law_1809 rfl (lv_at hl 0 rfl) ?_
  refine lv_iload hx hb dL_law_1810 (lv_at hl 4 rfl) ?_
  refine lv_iconst (v := nI 1) hx hb dL_law_1812 (by decide) ?_
  refine n_iadd X dL_law_1813 ?_
  refine r_xld X hB hL (by omega) dL_law_1814 ?_
  refine lv_aload_n hx hb dL_law_1815 rfl (lv_at hl 3 rfl) ?_
  refine Gr.callW (ct_X0_layerByPeeling l g (FF o) S n st ln hf hs a (xs (i + 1)) (o + 10) hl0 (FF_u o) (FF_lo hlo)) X hL hl sw_X0_layerByPeeling q1649 rfl rfl (Nat.le_of_ble_eq_true rfl) dL_law_1816 ⟨by have := hR.1; omega, by have := hR.2; omega⟩ (by omega) (by omega) ⟨hsk, _, hu⟩ (fun r H locs hL hp => ?_)
  obtain ⟨x, hxs, hr, hx3, hnum, ⟨f, hu⟩, hX, hC⟩ := WP.ex hp
  have hW := hW.keepC hC (fun q h1 h2 y => y.elim (fun y => y ⟨h1, by omega⟩) (fun y => by have y : q = o + 10 := y; omega))
  obtain ⟨v0, hv⟩ : ∃ v9, x.2.1 = some (.int v9) := by rw [hxs]; unfold s_one; (repeat' split) <;> exact ⟨_, rfl⟩
  have hq : x.1 = 0 → Al g (o + 10) 1 (fun _ => v0.toInt64) H := fun h => by obtain ⟨n9, e1, e2⟩ := hnum h; rw [hv] at e1; cases e1; exact e2
  subst hr
  refine lv_istore (lv' := [(5, .int _), (0, .ref _), (1, .ref _), (2, .ref _), (3, .ref _), (4, .int _)]) hx hb dL_law_1819 hl (by decide) rfl (fun ls hl => ?_)
  refine lv_aload_n hx hb dL_law_1821 rfl (lv_at hl 3 rfl) ?_
  refine lv_aload_n hx hb dL_law_1822 rfl (lv_at hl 1 rfl) ?_
  refine lv_iload hx hb dL_law_1823 (lv_at hl 5 rfl) ?_
  refine lv_iconst (v := nI 1) hx hb dL_law_1825 (by decide) ?_
  refine n_iadd X dL_law_1826 ?_
  refine r_xld X hB hL (by omega) dL_law_1827 ?_
  refine Gr.callV (ct_X5_layerByPeeling l g o n S (xs (i + 1)) hN hn hRO) X hL hl vb_X5_layerByPeeling q2131 (hW.2.1.recv hKV rfl) rfl rfl (Nat.le_of_ble_eq_true rfl) dL_law_1828 ⟨by have := hR.1; omega, by have := hR.2; omega⟩ (by omega) (by omega) hW (fun r H locs hL hp => ?_)
  obtain ⟨S1, hAP, hW, hO⟩ := hp
  obtain ⟨hSc, ht, hr⟩ : AP S1 x r := by rw [hxs]; exact hAP
  have hX := (hX.off hO hKV.gE hlo).sc hSc
  have hu := hu.at (hO.2 _ (Or.inr (by omega)))
  have hq : x.1 = 0 → Al g (o + 10) 1 (fun _ => v0.toInt64) H := fun h => (hq h).at (hO.2 _ (Or.inr (by omega)))
  rw [hv] at hr
  subst hr
  refine lv_istore (lv' := [(6, .int _), (5, .int _), (0, .ref _), (1, .ref _), (2, .ref _), (3, .ref _), (4, .int _)]) hx hb dL_law_1831 hl (by decide) rfl (fun ls hl => ?_)
  refine lv_aload_n hx hb dL_law_1833 rfl (lv_at hl 4 rfl) ?_
  refine Gr.callV (ct_X5_thrown l g o S1) X hL hl vb_X5_thrown q1871 (hW.2.1.recv hKV rfl) rfl rfl (Nat.le_of_ble_eq_true rfl) dL_law_1834 ⟨by have := hR.1; omega, by have := hR.2; omega⟩ (by omega) (by omega) hW (fun r H9 locs hL hp => ?_)
  obtain ⟨rfl, e9⟩ := hp
  cases e9
  refine lv_iload hx hb dL_law_1837 (lv_at hl 1 rfl) ?_
  refine lv_icmp_eq (tgt := 1844) hx hb dL_law_1839 (by decide) (fun c_1839 => ?_) (fun c_1839 => ?_)
  ·
    refine lv_iload hx hb dL_law_1844 (lv_at hl 1 rfl) ?_
    refine n_ifne (tgt := 1861) X dL_law_1846 (by decide) (by omega) (fun c_1846 => ?_) (fun c_1846 => ?_)
    ·
      refine lv_goto (tgt := 2951) hx hb dL_law_1861 (by decide) ?_
      exact W.widen (by omega) (by omega) (kk _ _ _ hL (lv_sub hl [2, 3, 4, 5, 6] rfl) (LI.mk hX hW hu))
    ·
      have hu := hq c_1846
      refine lv_aload_n hx hb dL_law_1849 rfl (lv_at hl 5 rfl) ?_
      refine lv_iconst (v := nI 0) hx hb dL_law_1850 (by decide) ?_
      refine r_lld X hu 0 rfl (by decide) (by decide) dL_law_1851 ?_
      refine lv_iload hx hb dL_law_1852 (lv_at hl 0 rfl) ?_
      refine lv_i2l hx hb dL_law_1854 rfl ?_
      refine r_lcmp X dL_law_1855 ?_
      refine lv_if_eq (tgt := 1861) hx hb dL_law_1856 (by decide) (fun c_1856 => ?_) (fun c_1856 => ?_)
      ·
        refine lv_goto (tgt := 2951) hx hb dL_law_1861 (by decide) ?_
        exact W.widen (by omega) (by omega) (kk _ _ _ hL (lv_sub hl [2, 3, 4, 5, 6] rfl) (LI.mk hX hW hu))
      ·
        exact (c_1856 (lcI_0.mpr rfl)).elim
  ·
    exact absurd ht c_1839

set_option maxRecDepth 100000 in
set_option maxHeartbeats 4000000 in
theorem lc_33 (X : Cx p g s m args meth c cL_law 9 (yL nm) ret) (hl0 : l.stackTraces = false) (hB : LB g o b L xs s) (hR : LR R) (hi : i + 4 < L) (hL : ∀ q ∈ locs, gLo g ≤ q.base) (hl : lv_has ls 9 [(0, .ref b), (1, .ref a), (2, .ref o), (3, .ref (o + 10)), (4, .int (nI i))]) (hI : LI g a o H) (hc : cells + 6300 ≤ R.cells) (hsl : slots + 50100 ≤ R.slots)
    (kk : ∀ (H1 : Heap) (locs1 : List Loc) (ls1 : Array Slot), (∀ q ∈ locs1, gLo g ≤ q.base) → lv_has ls1 9 [(0, .ref b), (1, .ref a), (2, .ref o), (3, .ref (o + 10)), (4, .int (nI i))] → LI g a o H1 → W p l e R s m args below meth c H1 locs1 (cells + 6300) (slots + 50100) Q (F0 m 2951 ls1 [])) : W p l e R s m args below meth c H locs cells slots Q (F0 m 1864 ls []) := by
  have hx := X.1
  have hb := X.2.1
  have hKV := X.2.2.2.2.2.2.2.1.1
  have hlo := hB.1
  have hL120 := hB.2.2.2.2
  obtain ⟨⟨S, n, st, ln, hf, hs, hsk, hW⟩, f, hu⟩ := hI
  obtain ⟨hN, hn, hRO, hst, hs6, hln, hl6, hF, hG⟩ := hsk.mi
  refine lv_aload_n hx hb dL_law_1864 rfl (lv_at hl 1 rfl) ?_
  refine lv_aload_n hx hb dL_law_1865 rfl (lv_at hl 0 rfl) ?_
  refine lv_iload hx hb dL_law_1866 (lv_at hl 4 rfl) ?_
  refine lv_iconst (v := nI 1) hx hb dL_law_1868 (by decide) ?_
  refine n_iadd X dL_law_1869 ?_
  refine r_xld X hB hL (by omega) dL_law_1870 ?_
  refine lv_aload_n hx hb dL_law_1871 rfl (lv_at hl 3 rfl) ?_
  refine Gr.callW (ct_X0_layerByRows l g (FF o) S n st ln hf hs a (xs (i + 1)) (o + 10) hl0 (FF_u o) (FF_lo hlo)) X hL hl sw_X0_layerByRows q1656 rfl rfl (Nat.le_of_ble_eq_true rfl) dL_law_1872 ⟨by have := hR.1; omega, by have := hR.2; omega⟩ (by omega) (by omega) ⟨hsk, _, hu⟩ (fun r H locs hL hp => ?_)
  obtain ⟨x, hxs, hr, hx3, hnum, ⟨f, hu⟩, hX, hC⟩ := WP.ex hp
  have hW := hW.keepC hC (fun q h1 h2 y => y.elim (fun y => y ⟨h1, by omega⟩) (fun y => by have y : q = o + 10 := y; omega))
  obtain ⟨v0, hv⟩ : ∃ v9, x.2.1 = some (.int v9) := by rw [hxs]; unfold s_one; (repeat' split) <;> exact ⟨_, rfl⟩
  have hq : x.1 = 0 → Al g (o + 10) 1 (fun _ => v0.toInt64) H := fun h => by obtain ⟨n9, e1, e2⟩ := hnum h; rw [hv] at e1; cases e1; exact e2
  subst hr
  refine lv_istore (lv' := [(5, .int _), (0, .ref _), (1, .ref _), (2, .ref _), (3, .ref _), (4, .int _)]) hx hb dL_law_1875 hl (by decide) rfl (fun ls hl => ?_)
  refine lv_aload_n hx hb dL_law_1877 rfl (lv_at hl 3 rfl) ?_
  refine lv_aload_n hx hb dL_law_1878 rfl (lv_at hl 1 rfl) ?_
  refine lv_iload hx hb dL_law_1879 (lv_at hl 5 rfl) ?_
  refine lv_iconst (v := nI 1) hx hb dL_law_1881 (by decide) ?_
  refine n_iadd X dL_law_1882 ?_
  refine r_xld X hB hL (by omega) dL_law_1883 ?_
  refine Gr.callV (ct_X5_layerByRows l g o n S (xs (i + 1)) hN hn hRO) X hL hl vb_X5_layerByRows q2139 (hW.2.1.recv hKV rfl) rfl rfl (Nat.le_of_ble_eq_true rfl) dL_law_1884 ⟨by have := hR.1; omega, by have := hR.2; omega⟩ (by omega) (by omega) hW (fun r H locs hL hp => ?_)
  obtain ⟨S1, hAP, hW, hO⟩ := hp
  obtain ⟨hSc, ht, hr⟩ : AP S1 x r := by rw [hxs]; exact hAP
  have hX := (hX.off hO hKV.gE hlo).sc hSc
  have hu := hu.at (hO.2 _ (Or.inr (by omega)))
  have hq : x.1 = 0 → Al g (o + 10) 1 (fun _ => v0.toInt64) H := fun h => (hq h).at (hO.2 _ (Or.inr (by omega)))
  rw [hv] at hr
  subst hr
  refine lv_istore (lv' := [(6, .int _), (5, .int _), (0, .ref _), (1, .ref _), (2, .ref _), (3, .ref _), (4, .int _)]) hx hb dL_law_1887 hl (by decide) rfl (fun ls hl => ?_)
  refine lv_aload_n hx hb dL_law_1889 rfl (lv_at hl 4 rfl) ?_
  refine Gr.callV (ct_X5_thrown l g o S1) X hL hl vb_X5_thrown q1871 (hW.2.1.recv hKV rfl) rfl rfl (Nat.le_of_ble_eq_true rfl) dL_law_1890 ⟨by have := hR.1; omega, by have := hR.2; omega⟩ (by omega) (by omega) hW (fun r H9 locs hL hp => ?_)
  obtain ⟨rfl, e9⟩ := hp
  cases e9
  refine lv_iload hx hb dL_law_1893 (lv_at hl 1 rfl) ?_
  refine lv_icmp_eq (tgt := 1900) hx hb dL_law_1895 (by decide) (fun c_1895 => ?_) (fun c_1895 => ?_)
  ·
    refine lv_iload hx hb dL_law_1900 (lv_at hl 1 rfl) ?_
    refine n_ifne (tgt := 1917) X dL_law_1902 (by decide) (by omega) (fun c_1902 => ?_) (fun c_1902 => ?_)
    ·
      refine lv_goto (tgt := 2951) hx hb dL_law_1917 (by decide) ?_
      exact W.widen (by omega) (by omega) (kk _ _ _ hL (lv_sub hl [2, 3, 4, 5, 6] rfl) (LI.mk hX hW hu))
    ·
      have hu := hq c_1902
      refine lv_aload_n hx hb dL_law_1905 rfl (lv_at hl 5 rfl) ?_
      refine lv_iconst (v := nI 0) hx hb dL_law_1906 (by decide) ?_
      refine r_lld X hu 0 rfl (by decide) (by decide) dL_law_1907 ?_
      refine lv_iload hx hb dL_law_1908 (lv_at hl 0 rfl) ?_
      refine lv_i2l hx hb dL_law_1910 rfl ?_
      refine r_lcmp X dL_law_1911 ?_
      refine lv_if_eq (tgt := 1917) hx hb dL_law_1912 (by decide) (fun c_1912 => ?_) (fun c_1912 => ?_)
      ·
        refine lv_goto (tgt := 2951) hx hb dL_law_1917 (by decide) ?_
        exact W.widen (by omega) (by omega) (kk _ _ _ hL (lv_sub hl [2, 3, 4, 5, 6] rfl) (LI.mk hX hW hu))
      ·
        exact (c_1912 (lcI_0.mpr rfl)).elim
  ·
    exact absurd ht c_1895

set_option maxRecDepth 100000 in
set_option maxHeartbeats 4000000 in
theorem lc_34 (X : Cx p g s m args meth c cL_law 9 (yL nm) ret) (hl0 : l.stackTraces = false) (hB : LB g o b L xs s) (hR : LR R) (hi : i + 4 < L) (hL : ∀ q ∈ locs, gLo g ≤ q.base) (hl : lv_has ls 9 [(0, .ref b), (1, .ref a), (2, .ref o), (3, .ref (o + 10)), (4, .int (nI i))]) (hI : LI g a o H) (hc : cells + 6300 ≤ R.cells) (hsl : slots + 50100 ≤ R.slots)
    (kk : ∀ (H1 : Heap) (locs1 : List Loc) (ls1 : Array Slot), (∀ q ∈ locs1, gLo g ≤ q.base) → lv_has ls1 9 [(0, .ref b), (1, .ref a), (2, .ref o), (3, .ref (o + 10)), (4, .int (nI i))] → LI g a o H1 → W p l e R s m args below meth c H1 locs1 (cells + 6300) (slots + 50100) Q (F0 m 2951 ls1 [])) : W p l e R s m args below meth c H locs cells slots Q (F0 m 1920 ls []) := by
  have hx := X.1
  have hb := X.2.1
  have hKV := X.2.2.2.2.2.2.2.1.1
  have hlo := hB.1
  have hL120 := hB.2.2.2.2
  obtain ⟨⟨S, n, st, ln, hf, hs, hsk, hW⟩, f, hu⟩ := hI
  obtain ⟨hN, hn, hRO, hst, hs6, hln, hl6, hF, hG⟩ := hsk.mi
  refine lv_aload_n hx hb dL_law_1920 rfl (lv_at hl 1 rfl) ?_
  refine Gr.callV (ct_X1_layers l g (FF o) S n st ln hf hs a) X hL hl vb_X1_layers q1065 (hsk.recv hKV) rfl rfl (Nat.le_of_ble_eq_true rfl) dL_law_1921 ⟨by have := hR.1; omega, by have := hR.2; omega⟩ (by omega) (by omega) hsk (fun r H1 locs hL hp => ?_)
  obtain ⟨x, hxs, h0, hr, hE⟩ := OQ.ex hp
  have hX : SkX g (FF o) x.2.2 a H1 := by rw [show x.2.2 = S from by rw [hxs]; rfl]; exact (hsk.ext hE).x
  have hC : Chg (fun q => ¬ FF o q) H H1 := hE.chg
  have hu := hu.chg hC (fun y => y (FF_u o))
  have hW := hW.keepC hC (fun q h1 h2 y => y ⟨h1, by omega⟩)
  obtain ⟨v0, hv⟩ : ∃ v9, x.2.1 = some (.int v9) := by rw [hxs]; exact ⟨_, rfl⟩
  rw [hv] at hr
  subst hr
  refine lv_aload_n hx hb dL_law_1924 rfl (lv_at hl 2 rfl) ?_
  refine Gr.callV (ct_X5_layers l g o n S hN hn hRO) X hL hl vb_X5_layers q2144 (hW.2.1.recv hKV rfl) rfl rfl (Nat.le_of_ble_eq_true rfl) dL_law_1925 ⟨by have := hR.1; omega, by have := hR.2; omega⟩ (by omega) (by omega) hW (fun r H locs hL hp => ?_)
  obtain ⟨S1, hAP, hW, hO⟩ := hp
  obtain ⟨hSc, ht, hr⟩ : AP S1 x r := by rw [hxs]; exact hAP
  have hX := (hX.off hO hKV.gE hlo).sc hSc
  have hu := hu.at (hO.2 _ (Or.inr (by omega)))
  rw [hv] at hr
  subst hr
  refine lv_icmp_eq (tgt := 2951) hx hb dL_law_1928 (by decide) (fun c_1928 => ?_) (fun c_1928 => ?_)
  ·
    exact W.widen (by omega) (by omega) (kk _ _ _ hL (lv_sub hl [0, 1, 2, 3, 4] rfl) (LI.mk hX hW hu))
  ·
    exact absurd rfl c_1928

set_option maxRecDepth 100000 in
set_option maxHeartbeats 4000000 in
theorem lc_35 (X : Cx p g s m args meth c cL_law 9 (yL nm) ret) (hl0 : l.stackTraces = false) (hB : LB g o b L xs s) (hR : LR R) (hi : i + 4 < L) (hL : ∀ q ∈ locs, gLo g ≤ q.base) (hl : lv_has ls 9 [(0, .ref b), (1, .ref a), (2, .ref o), (3, .ref (o + 10)), (4, .int (nI i))]) (hI : LI g a o H) (hc : cells + 6300 ≤ R.cells) (hsl : slots + 50100 ≤ R.slots)
    (kk : ∀ (H1 : Heap) (locs1 : List Loc) (ls1 : Array Slot), (∀ q ∈ locs1, gLo g ≤ q.base) → lv_has ls1 9 [(0, .ref b), (1, .ref a), (2, .ref o), (3, .ref (o + 10)), (4, .int (nI i))] → LI g a o H1 → W p l e R s m args below meth c H1 locs1 (cells + 6300) (slots + 50100) Q (F0 m 2951 ls1 [])) : W p l e R s m args below meth c H locs cells slots Q (F0 m 1933 ls []) := by
  have hx := X.1
  have hb := X.2.1
  have hKV := X.2.2.2.2.2.2.2.1.1
  have hlo := hB.1
  have hL120 := hB.2.2.2.2
  obtain ⟨⟨S, n, st, ln, hf, hs, hsk, hW⟩, f, hu⟩ := hI
  obtain ⟨hN, hn, hRO, hst, hs6, hln, hl6, hF, hG⟩ := hsk.mi
  refine lv_aload_n hx hb dL_law_1933 rfl (lv_at hl 1 rfl) ?_
  refine lv_aload_n hx hb dL_law_1934 rfl (lv_at hl 0 rfl) ?_
  refine lv_iload hx hb dL_law_1935 (lv_at hl 4 rfl) ?_
  refine lv_iconst (v := nI 1) hx hb dL_law_1937 (by decide) ?_
  refine n_iadd X dL_law_1938 ?_
  refine r_xld X hB hL (by omega) dL_law_1939 ?_
  refine lv_aload_n hx hb dL_law_1940 rfl (lv_at hl 3 rfl) ?_
  refine Gr.callW (ct_X0_inLayer l g (FF o) S n st ln hf hs a (xs (i + 1)) (o + 10) hl0 (FF_u o) (FF_lo hlo)) X hL hl sw_X0_inLayer q1663 rfl rfl (Nat.le_of_ble_eq_true rfl) dL_law_1941 ⟨by have := hR.1; omega, by have := hR.2; omega⟩ (by omega) (by omega) ⟨hsk, _, hu⟩ (fun r H locs hL hp => ?_)
  obtain ⟨x, hxs, hr, hx3, hnum, ⟨f, hu⟩, hX, hC⟩ := WP.ex hp
  have hW := hW.keepC hC (fun q h1 h2 y => y.elim (fun y => y ⟨h1, by omega⟩) (fun y => by have y : q = o + 10 := y; omega))
  obtain ⟨v0, hv⟩ : ∃ v9, x.2.1 = some (.int v9) := by rw [hxs]; unfold s_inL; (repeat' split) <;> exact ⟨_, rfl⟩
  have hq : x.1 = 0 → Al g (o + 10) 1 (fun _ => v0.toInt64) H := fun h => by obtain ⟨n9, e1, e2⟩ := hnum h; rw [hv] at e1; cases e1; exact e2
  subst hr
  refine lv_istore (lv' := [(5, .int _), (0, .ref _), (1, .ref _), (2, .ref _), (3, .ref _), (4, .int _)]) hx hb dL_law_1944 hl (by decide) rfl (fun ls hl => ?_)
  refine lv_aload_n hx hb dL_law_1946 rfl (lv_at hl 3 rfl) ?_
  refine lv_aload_n hx hb dL_law_1947 rfl (lv_at hl 1 rfl) ?_
  refine lv_iload hx hb dL_law_1948 (lv_at hl 5 rfl) ?_
  refine lv_iconst (v := nI 1) hx hb dL_law_1950 (by decide) ?_
  refine n_iadd X dL_law_1951 ?_
  refine r_xld X hB hL (by omega) dL_law_1952 ?_
  refine Gr.callV (ct_X5_inLayer l g o n S (xs (i + 1)) hN hn hRO) X hL hl vb_X5_inLayer q2148 (hW.2.1.recv hKV rfl) rfl rfl (Nat.le_of_ble_eq_true rfl) dL_law_1953 ⟨by have := hR.1; omega, by have := hR.2; omega⟩ (by omega) (by omega) hW (fun r H locs hL hp => ?_)
  obtain ⟨S1, hAP, hW, hO⟩ := hp
  obtain ⟨hSc, ht, hr⟩ : AP S1 x r := by rw [hxs]; exact hAP
  have hX := (hX.off hO hKV.gE hlo).sc hSc
  have hu := hu.at (hO.2 _ (Or.inr (by omega)))
  have hq : x.1 = 0 → Al g (o + 10) 1 (fun _ => v0.toInt64) H := fun h => (hq h).at (hO.2 _ (Or.inr (by omega)))
  rw [hv] at hr
  subst hr
  refine lv_istore (lv' := [(6, .int _), (5, .int _), (0, .ref _), (1, .ref _), (2, .ref _), (3, .ref _), (4, .int _)]) hx hb dL_law_1956 hl (by decide) rfl (fun ls hl => ?_)
  refine lv_aload_n hx hb dL_law_1958 rfl (lv_at hl 4 rfl) ?_
  refine Gr.callV (ct_X5_thrown l g o S1) X hL hl vb_X5_thrown q1871 (hW.2.1.recv hKV rfl) rfl rfl (Nat.le_of_ble_eq_true rfl) dL_law_1959 ⟨by have := hR.1; omega, by have := hR.2; omega⟩ (by omega) (by omega) hW (fun r H9 locs hL hp => ?_)
  obtain ⟨rfl, e9⟩ := hp
  cases e9
  refine lv_iload hx hb dL_law_1962 (lv_at hl 1 rfl) ?_
  refine lv_icmp_eq (tgt := 1969) hx hb dL_law_1964 (by decide) (fun c_1964 => ?_) (fun c_1964 => ?_)
  ·
    refine lv_iload hx hb dL_law_1969 (lv_at hl 1 rfl) ?_
    refine n_ifne (tgt := 1986) X dL_law_1971 (by decide) (by omega) (fun c_1971 => ?_) (fun c_1971 => ?_)
    ·
      refine lv_goto (tgt := 2951) hx hb dL_law_1986 (by decide) ?_
      exact W.widen (by omega) (by omega) (kk _ _ _ hL (lv_sub hl [2, 3, 4, 5, 6] rfl) (LI.mk hX hW hu))
    ·
      have hu := hq c_1971
      refine lv_aload_n hx hb dL_law_1974 rfl (lv_at hl 5 rfl) ?_
      refine lv_iconst (v := nI 0) hx hb dL_law_1975 (by decide) ?_
      refine r_lld X hu 0 rfl (by decide) (by decide) dL_law_1976 ?_
      refine lv_iload hx hb dL_law_1977 (lv_at hl 0 rfl) ?_
      refine lv_i2l hx hb dL_law_1979 rfl ?_
      refine r_lcmp X dL_law_1980 ?_
      refine lv_if_eq (tgt := 1986) hx hb dL_law_1981 (by decide) (fun c_1981 => ?_) (fun c_1981 => ?_)
      ·
        refine lv_goto (tgt := 2951) hx hb dL_law_1986 (by decide) ?_
        exact W.widen (by omega) (by omega) (kk _ _ _ hL (lv_sub hl [2, 3, 4, 5, 6] rfl) (LI.mk hX hW hu))
      ·
        exact (c_1981 (lcI_0.mpr rfl)).elim
  ·
    exact absurd ht c_1964

set_option maxRecDepth 100000 in
set_option maxHeartbeats 4000000 in
theorem lc_36 (X : Cx p g s m args meth c cL_law 9 (yL nm) ret) (hl0 : l.stackTraces = false) (hB : LB g o b L xs s) (hR : LR R) (hi : i + 4 < L) (hL : ∀ q ∈ locs, gLo g ≤ q.base) (hl : lv_has ls 9 [(0, .ref b), (1, .ref a), (2, .ref o), (3, .ref (o + 10)), (4, .int (nI i))]) (hI : LI g a o H) (hc : cells + 6300 ≤ R.cells) (hsl : slots + 50100 ≤ R.slots)
    (kk : ∀ (H1 : Heap) (locs1 : List Loc) (ls1 : Array Slot), (∀ q ∈ locs1, gLo g ≤ q.base) → lv_has ls1 9 [(0, .ref b), (1, .ref a), (2, .ref o), (3, .ref (o + 10)), (4, .int (nI i))] → LI g a o H1 → W p l e R s m args below meth c H1 locs1 (cells + 6300) (slots + 50100) Q (F0 m 2951 ls1 [])) : W p l e R s m args below meth c H locs cells slots Q (F0 m 1989 ls []) := by
  have hx := X.1
  have hb := X.2.1
  have hKV := X.2.2.2.2.2.2.2.1.1
  have hlo := hB.1
  have hL120 := hB.2.2.2.2
  obtain ⟨⟨S, n, st, ln, hf, hs, hsk, hW⟩, f, hu⟩ := hI
  obtain ⟨hN, hn, hRO, hst, hs6, hln, hl6, hF, hG⟩ := hsk.mi
  refine lv_aload_n hx hb dL_law_1989 rfl (lv_at hl 1 rfl) ?_
  refine lv_aload_n hx hb dL_law_1990 rfl (lv_at hl 0 rfl) ?_
  refine lv_iload hx hb dL_law_1991 (lv_at hl 4 rfl) ?_
  refine lv_iconst (v := nI 1) hx hb dL_law_1993 (by decide) ?_
  refine n_iadd X dL_law_1994 ?_
  refine r_xld X hB hL (by omega) dL_law_1995 ?_
  refine lv_aload_n hx hb dL_law_1996 rfl (lv_at hl 3 rfl) ?_
  refine Gr.callW (ct_X0_toldOn l g (FF o) S n st ln hf hs a (xs (i + 1)) (o + 10) hl0 (FF_u o) (FF_lo hlo)) X hL hl sw_X0_toldOn q1673 rfl rfl (Nat.le_of_ble_eq_true rfl) dL_law_1997 ⟨by have := hR.1; omega, by have := hR.2; omega⟩ (by omega) (by omega) ⟨hsk, _, hu⟩ (fun r H locs hL hp => ?_)
  obtain ⟨x, hxs, hr, hx3, hnum, ⟨f, hu⟩, hX, hC⟩ := WP.ex hp
  have hW := hW.keepC hC (fun q h1 h2 y => y.elim (fun y => y ⟨h1, by omega⟩) (fun y => by have y : q = o + 10 := y; omega))
  obtain ⟨v0, hv⟩ : ∃ v9, x.2.1 = some (.int v9) := by rw [hxs]; unfold s_bad; (repeat' split) <;> exact ⟨_, rfl⟩
  have hq : x.1 = 0 → Al g (o + 10) 1 (fun _ => v0.toInt64) H := fun h => by obtain ⟨n9, e1, e2⟩ := hnum h; rw [hv] at e1; cases e1; exact e2
  subst hr
  refine lv_istore (lv' := [(5, .int _), (0, .ref _), (1, .ref _), (2, .ref _), (3, .ref _), (4, .int _)]) hx hb dL_law_2000 hl (by decide) rfl (fun ls hl => ?_)
  refine lv_aload_n hx hb dL_law_2002 rfl (lv_at hl 3 rfl) ?_
  refine lv_aload_n hx hb dL_law_2003 rfl (lv_at hl 1 rfl) ?_
  refine lv_iload hx hb dL_law_2004 (lv_at hl 5 rfl) ?_
  refine lv_iconst (v := nI 1) hx hb dL_law_2006 (by decide) ?_
  refine n_iadd X dL_law_2007 ?_
  refine r_xld X hB hL (by omega) dL_law_2008 ?_
  refine Gr.callV (ct_X5_toldOn l g o n S (xs (i + 1)) hN hn) X hL hl vb_X5_toldOn q2152 (hW.2.1.recv hKV rfl) rfl rfl (Nat.le_of_ble_eq_true rfl) dL_law_2009 ⟨by have := hR.1; omega, by have := hR.2; omega⟩ (by omega) (by omega) hW (fun r H locs hL hp => ?_)
  obtain ⟨S1, hAP, hW, hO⟩ := hp
  obtain ⟨hSc, ht, hr⟩ : AP S1 x r := by rw [hxs]; exact hAP
  have hX := (hX.off hO hKV.gE hlo).sc hSc
  have hu := hu.at (hO.2 _ (Or.inr (by omega)))
  have hq : x.1 = 0 → Al g (o + 10) 1 (fun _ => v0.toInt64) H := fun h => (hq h).at (hO.2 _ (Or.inr (by omega)))
  rw [hv] at hr
  subst hr
  refine lv_istore (lv' := [(6, .int _), (5, .int _), (0, .ref _), (1, .ref _), (2, .ref _), (3, .ref _), (4, .int _)]) hx hb dL_law_2012 hl (by decide) rfl (fun ls hl => ?_)
  refine lv_aload_n hx hb dL_law_2014 rfl (lv_at hl 4 rfl) ?_
  refine Gr.callV (ct_X5_thrown l g o S1) X hL hl vb_X5_thrown q1871 (hW.2.1.recv hKV rfl) rfl rfl (Nat.le_of_ble_eq_true rfl) dL_law_2015 ⟨by have := hR.1; omega, by have := hR.2; omega⟩ (by omega) (by omega) hW (fun r H9 locs hL hp => ?_)
  obtain ⟨rfl, e9⟩ := hp
  cases e9
  refine lv_iload hx hb dL_law_2018 (lv_at hl 1 rfl) ?_
  refine lv_icmp_eq (tgt := 2025) hx hb dL_law_2020 (by decide) (fun c_2020 => ?_) (fun c_2020 => ?_)
  ·
    refine lv_iload hx hb dL_law_2025 (lv_at hl 1 rfl) ?_
    refine n_ifne (tgt := 2042) X dL_law_2027 (by decide) (by omega) (fun c_2027 => ?_) (fun c_2027 => ?_)
    ·
      refine lv_goto (tgt := 2951) hx hb dL_law_2042 (by decide) ?_
      exact W.widen (by omega) (by omega) (kk _ _ _ hL (lv_sub hl [2, 3, 4, 5, 6] rfl) (LI.mk hX hW hu))
    ·
      have hu := hq c_2027
      refine lv_aload_n hx hb dL_law_2030 rfl (lv_at hl 5 rfl) ?_
      refine lv_iconst (v := nI 0) hx hb dL_law_2031 (by decide) ?_
      refine r_lld X hu 0 rfl (by decide) (by decide) dL_law_2032 ?_
      refine lv_iload hx hb dL_law_2033 (lv_at hl 0 rfl) ?_
      refine lv_i2l hx hb dL_law_2035 rfl ?_
      refine r_lcmp X dL_law_2036 ?_
      refine lv_if_eq (tgt := 2042) hx hb dL_law_2037 (by decide) (fun c_2037 => ?_) (fun c_2037 => ?_)
      ·
        refine lv_goto (tgt := 2951) hx hb dL_law_2042 (by decide) ?_
        exact W.widen (by omega) (by omega) (kk _ _ _ hL (lv_sub hl [2, 3, 4, 5, 6] rfl) (LI.mk hX hW hu))
      ·
        exact (c_2037 (lcI_0.mpr rfl)).elim
  ·
    exact absurd ht c_2020

set_option maxRecDepth 100000 in
set_option maxHeartbeats 4000000 in
theorem lc_37 (X : Cx p g s m args meth c cL_law 9 (yL nm) ret) (hl0 : l.stackTraces = false) (hB : LB g o b L xs s) (hR : LR R) (hi : i + 4 < L) (hL : ∀ q ∈ locs, gLo g ≤ q.base) (hl : lv_has ls 9 [(0, .ref b), (1, .ref a), (2, .ref o), (3, .ref (o + 10)), (4, .int (nI i))]) (hI : LI g a o H) (hc : cells + 6300 ≤ R.cells) (hsl : slots + 50100 ≤ R.slots)
    (kk : ∀ (H1 : Heap) (locs1 : List Loc) (ls1 : Array Slot), (∀ q ∈ locs1, gLo g ≤ q.base) → lv_has ls1 9 [(0, .ref b), (1, .ref a), (2, .ref o), (3, .ref (o + 10)), (4, .int (nI i))] → LI g a o H1 → W p l e R s m args below meth c H1 locs1 (cells + 6300) (slots + 50100) Q (F0 m 2951 ls1 [])) : W p l e R s m args below meth c H locs cells slots Q (F0 m 2045 ls []) := by
  have hx := X.1
  have hb := X.2.1
  have hKV := X.2.2.2.2.2.2.2.1.1
  have hlo := hB.1
  have hL120 := hB.2.2.2.2
  obtain ⟨⟨S, n, st, ln, hf, hs, hsk, hW⟩, f, hu⟩ := hI
  obtain ⟨hN, hn, hRO, hst, hs6, hln, hl6, hF, hG⟩ := hsk.mi
  refine lv_aload_n hx hb dL_law_2045 rfl (lv_at hl 1 rfl) ?_
  refine lv_aload_n hx hb dL_law_2046 rfl (lv_at hl 0 rfl) ?_
  refine lv_iload hx hb dL_law_2047 (lv_at hl 4 rfl) ?_
  refine lv_iconst (v := nI 1) hx hb dL_law_2049 (by decide) ?_
  refine n_iadd X dL_law_2050 ?_
  refine r_xld X hB hL (by omega) dL_law_2051 ?_
  refine lv_aload_n hx hb dL_law_2052 rfl (lv_at hl 3 rfl) ?_
  refine Gr.callW (ct_X0_setsFor l g (FF o) S n st ln hf hs a (xs (i + 1)) (o + 10) hl0 (FF_u o) (FF_lo hlo)) X hL hl sw_X0_setsFor q1680 rfl rfl (Nat.le_of_ble_eq_true rfl) dL_law_2053 ⟨by have := hR.1; omega, by have := hR.2; omega⟩ (by omega) (by omega) ⟨hsk, _, hu⟩ (fun r H locs hL hp => ?_)
  obtain ⟨x, hxs, hr, hx3, hnum, ⟨f, hu⟩, hX, hC⟩ := WP.ex hp
  have hW := hW.keepC hC (fun q h1 h2 y => y.elim (fun y => y ⟨h1, by omega⟩) (fun y => by have y : q = o + 10 := y; omega))
  obtain ⟨v0, hv⟩ : ∃ v9, x.2.1 = some (.int v9) := by rw [hxs]; unfold s_one; (repeat' split) <;> exact ⟨_, rfl⟩
  have hq : x.1 = 0 → Al g (o + 10) 1 (fun _ => v0.toInt64) H := fun h => by obtain ⟨n9, e1, e2⟩ := hnum h; rw [hv] at e1; cases e1; exact e2
  subst hr
  refine lv_istore (lv' := [(5, .int _), (0, .ref _), (1, .ref _), (2, .ref _), (3, .ref _), (4, .int _)]) hx hb dL_law_2056 hl (by decide) rfl (fun ls hl => ?_)
  refine lv_aload_n hx hb dL_law_2058 rfl (lv_at hl 3 rfl) ?_
  refine lv_aload_n hx hb dL_law_2059 rfl (lv_at hl 1 rfl) ?_
  refine lv_iload hx hb dL_law_2060 (lv_at hl 5 rfl) ?_
  refine lv_iconst (v := nI 1) hx hb dL_law_2062 (by decide) ?_
  refine n_iadd X dL_law_2063 ?_
  refine r_xld X hB hL (by omega) dL_law_2064 ?_
  refine Gr.callV (ct_X5_setsFor l g o n S (xs (i + 1)) hN hn) X hL hl vb_X5_setsFor q2156 (hW.2.1.recv hKV rfl) rfl rfl (Nat.le_of_ble_eq_true rfl) dL_law_2065 ⟨by have := hR.1; omega, by have := hR.2; omega⟩ (by omega) (by omega) hW (fun r H locs hL hp => ?_)
  obtain ⟨S1, hAP, hW, hO⟩ := hp
  obtain ⟨hSc, ht, hr⟩ : AP S1 x r := by rw [hxs]; exact hAP
  have hX := (hX.off hO hKV.gE hlo).sc hSc
  have hu := hu.at (hO.2 _ (Or.inr (by omega)))
  have hq : x.1 = 0 → Al g (o + 10) 1 (fun _ => v0.toInt64) H := fun h => (hq h).at (hO.2 _ (Or.inr (by omega)))
  rw [hv] at hr
  subst hr
  refine lv_istore (lv' := [(6, .int _), (5, .int _), (0, .ref _), (1, .ref _), (2, .ref _), (3, .ref _), (4, .int _)]) hx hb dL_law_2068 hl (by decide) rfl (fun ls hl => ?_)
  refine lv_aload_n hx hb dL_law_2070 rfl (lv_at hl 4 rfl) ?_
  refine Gr.callV (ct_X5_thrown l g o S1) X hL hl vb_X5_thrown q1871 (hW.2.1.recv hKV rfl) rfl rfl (Nat.le_of_ble_eq_true rfl) dL_law_2071 ⟨by have := hR.1; omega, by have := hR.2; omega⟩ (by omega) (by omega) hW (fun r H9 locs hL hp => ?_)
  obtain ⟨rfl, e9⟩ := hp
  cases e9
  refine lv_iload hx hb dL_law_2074 (lv_at hl 1 rfl) ?_
  refine lv_icmp_eq (tgt := 2081) hx hb dL_law_2076 (by decide) (fun c_2076 => ?_) (fun c_2076 => ?_)
  ·
    refine lv_iload hx hb dL_law_2081 (lv_at hl 1 rfl) ?_
    refine n_ifne (tgt := 2098) X dL_law_2083 (by decide) (by omega) (fun c_2083 => ?_) (fun c_2083 => ?_)
    ·
      refine lv_goto (tgt := 2951) hx hb dL_law_2098 (by decide) ?_
      exact W.widen (by omega) (by omega) (kk _ _ _ hL (lv_sub hl [2, 3, 4, 5, 6] rfl) (LI.mk hX hW hu))
    ·
      have hu := hq c_2083
      refine lv_aload_n hx hb dL_law_2086 rfl (lv_at hl 5 rfl) ?_
      refine lv_iconst (v := nI 0) hx hb dL_law_2087 (by decide) ?_
      refine r_lld X hu 0 rfl (by decide) (by decide) dL_law_2088 ?_
      refine lv_iload hx hb dL_law_2089 (lv_at hl 0 rfl) ?_
      refine lv_i2l hx hb dL_law_2091 rfl ?_
      refine r_lcmp X dL_law_2092 ?_
      refine lv_if_eq (tgt := 2098) hx hb dL_law_2093 (by decide) (fun c_2093 => ?_) (fun c_2093 => ?_)
      ·
        refine lv_goto (tgt := 2951) hx hb dL_law_2098 (by decide) ?_
        exact W.widen (by omega) (by omega) (kk _ _ _ hL (lv_sub hl [2, 3, 4, 5, 6] rfl) (LI.mk hX hW hu))
      ·
        exact (c_2093 (lcI_0.mpr rfl)).elim
  ·
    exact absurd ht c_2076

set_option maxRecDepth 100000 in
set_option maxHeartbeats 4000000 in
theorem lc_38 (X : Cx p g s m args meth c cL_law 9 (yL nm) ret) (hl0 : l.stackTraces = false) (hB : LB g o b L xs s) (hR : LR R) (hi : i + 4 < L) (hL : ∀ q ∈ locs, gLo g ≤ q.base) (hl : lv_has ls 9 [(0, .ref b), (1, .ref a), (2, .ref o), (3, .ref (o + 10)), (4, .int (nI i))]) (hI : LI g a o H) (hc : cells + 6300 ≤ R.cells) (hsl : slots + 50100 ≤ R.slots)
    (kk : ∀ (H1 : Heap) (locs1 : List Loc) (ls1 : Array Slot), (∀ q ∈ locs1, gLo g ≤ q.base) → lv_has ls1 9 [(0, .ref b), (1, .ref a), (2, .ref o), (3, .ref (o + 10)), (4, .int (nI i))] → LI g a o H1 → W p l e R s m args below meth c H1 locs1 (cells + 6300) (slots + 50100) Q (F0 m 2951 ls1 [])) : W p l e R s m args below meth c H locs cells slots Q (F0 m 2101 ls []) := by
  have hx := X.1
  have hb := X.2.1
  have hKV := X.2.2.2.2.2.2.2.1.1
  have hlo := hB.1
  have hL120 := hB.2.2.2.2
  obtain ⟨⟨S, n, st, ln, hf, hs, hsk, hW⟩, f, hu⟩ := hI
  obtain ⟨hN, hn, hRO, hst, hs6, hln, hl6, hF, hG⟩ := hsk.mi
  refine lv_aload_n hx hb dL_law_2101 rfl (lv_at hl 1 rfl) ?_
  refine lv_aload_n hx hb dL_law_2102 rfl (lv_at hl 0 rfl) ?_
  refine lv_iload hx hb dL_law_2103 (lv_at hl 4 rfl) ?_
  refine lv_iconst (v := nI 1) hx hb dL_law_2105 (by decide) ?_
  refine n_iadd X dL_law_2106 ?_
  refine r_xld X hB hL (by omega) dL_law_2107 ?_
  refine lv_aload_n hx hb dL_law_2108 rfl (lv_at hl 3 rfl) ?_
  refine Gr.callW (ct_X0_toldWeakly l g (FF o) S n st ln hf hs a (xs (i + 1)) (o + 10) hl0 (FF_u o) (FF_lo hlo)) X hL hl sw_X0_toldWeakly q1691 rfl rfl (Nat.le_of_ble_eq_true rfl) dL_law_2109 ⟨by have := hR.1; omega, by have := hR.2; omega⟩ (by omega) (by omega) ⟨hsk, _, hu⟩ (fun r H locs hL hp => ?_)
  obtain ⟨x, hxs, hr, hx3, hnum, ⟨f, hu⟩, hX, hC⟩ := WP.ex hp
  have hW := hW.keepC hC (fun q h1 h2 y => y.elim (fun y => y ⟨h1, by omega⟩) (fun y => by have y : q = o + 10 := y; omega))
  obtain ⟨v0, hv⟩ : ∃ v9, x.2.1 = some (.int v9) := by rw [hxs]; unfold s_bad; (repeat' split) <;> exact ⟨_, rfl⟩
  have hq : x.1 = 0 → Al g (o + 10) 1 (fun _ => v0.toInt64) H := fun h => by obtain ⟨n9, e1, e2⟩ := hnum h; rw [hv] at e1; cases e1; exact e2
  subst hr
  refine lv_istore (lv' := [(5, .int _), (0, .ref _), (1, .ref _), (2, .ref _), (3, .ref _), (4, .int _)]) hx hb dL_law_2112 hl (by decide) rfl (fun ls hl => ?_)
  refine lv_aload_n hx hb dL_law_2114 rfl (lv_at hl 3 rfl) ?_
  refine lv_aload_n hx hb dL_law_2115 rfl (lv_at hl 1 rfl) ?_
  refine lv_iload hx hb dL_law_2116 (lv_at hl 5 rfl) ?_
  refine lv_iconst (v := nI 1) hx hb dL_law_2118 (by decide) ?_
  refine n_iadd X dL_law_2119 ?_
  refine r_xld X hB hL (by omega) dL_law_2120 ?_
  refine Gr.callV (ct_X5_toldWeakly l g o n S (xs (i + 1)) hN hn) X hL hl vb_X5_toldWeakly q2160 (hW.2.1.recv hKV rfl) rfl rfl (Nat.le_of_ble_eq_true rfl) dL_law_2121 ⟨by have := hR.1; omega, by have := hR.2; omega⟩ (by omega) (by omega) hW (fun r H locs hL hp => ?_)
  obtain ⟨S1, hAP, hW, hO⟩ := hp
  obtain ⟨hSc, ht, hr⟩ : AP S1 x r := by rw [hxs]; exact hAP
  have hX := (hX.off hO hKV.gE hlo).sc hSc
  have hu := hu.at (hO.2 _ (Or.inr (by omega)))
  have hq : x.1 = 0 → Al g (o + 10) 1 (fun _ => v0.toInt64) H := fun h => (hq h).at (hO.2 _ (Or.inr (by omega)))
  rw [hv] at hr
  subst hr
  refine lv_istore (lv' := [(6, .int _), (5, .int _), (0, .ref _), (1, .ref _), (2, .ref _), (3, .ref _), (4, .int _)]) hx hb dL_law_2124 hl (by decide) rfl (fun ls hl => ?_)
  refine lv_aload_n hx hb dL_law_2126 rfl (lv_at hl 4 rfl) ?_
  refine Gr.callV (ct_X5_thrown l g o S1) X hL hl vb_X5_thrown q1871 (hW.2.1.recv hKV rfl) rfl rfl (Nat.le_of_ble_eq_true rfl) dL_law_2127 ⟨by have := hR.1; omega, by have := hR.2; omega⟩ (by omega) (by omega) hW (fun r H9 locs hL hp => ?_)
  obtain ⟨rfl, e9⟩ := hp
  cases e9
  refine lv_iload hx hb dL_law_2130 (lv_at hl 1 rfl) ?_
  refine lv_icmp_eq (tgt := 2137) hx hb dL_law_2132 (by decide) (fun c_2132 => ?_) (fun c_2132 => ?_)
  ·
    refine lv_iload hx hb dL_law_2137 (lv_at hl 1 rfl) ?_
    refine n_ifne (tgt := 2154) X dL_law_2139 (by decide) (by omega) (fun c_2139 => ?_) (fun c_2139 => ?_)
    ·
      refine lv_goto (tgt := 2951) hx hb dL_law_2154 (by decide) ?_
      exact W.widen (by omega) (by omega) (kk _ _ _ hL (lv_sub hl [2, 3, 4, 5, 6] rfl) (LI.mk hX hW hu))
    ·
      have hu := hq c_2139
      refine lv_aload_n hx hb dL_law_2142 rfl (lv_at hl 5 rfl) ?_
      refine lv_iconst (v := nI 0) hx hb dL_law_2143 (by decide) ?_
      refine r_lld X hu 0 rfl (by decide) (by decide) dL_law_2144 ?_
      refine lv_iload hx hb dL_law_2145 (lv_at hl 0 rfl) ?_
      refine lv_i2l hx hb dL_law_2147 rfl ?_
      refine r_lcmp X dL_law_2148 ?_
      refine lv_if_eq (tgt := 2154) hx hb dL_law_2149 (by decide) (fun c_2149 => ?_) (fun c_2149 => ?_)
      ·
        refine lv_goto (tgt := 2951) hx hb dL_law_2154 (by decide) ?_
        exact W.widen (by omega) (by omega) (kk _ _ _ hL (lv_sub hl [2, 3, 4, 5, 6] rfl) (LI.mk hX hW hu))
      ·
        exact (c_2149 (lcI_0.mpr rfl)).elim
  ·
    exact absurd ht c_2132

set_option maxRecDepth 100000 in
set_option maxHeartbeats 4000000 in
theorem lc_39 (X : Cx p g s m args meth c cL_law 9 (yL nm) ret) (hl0 : l.stackTraces = false) (hB : LB g o b L xs s) (hR : LR R) (hi : i + 4 < L) (hL : ∀ q ∈ locs, gLo g ≤ q.base) (hl : lv_has ls 9 [(0, .ref b), (1, .ref a), (2, .ref o), (3, .ref (o + 10)), (4, .int (nI i))]) (hI : LI g a o H) (hc : cells + 6300 ≤ R.cells) (hsl : slots + 50100 ≤ R.slots)
    (kk : ∀ (H1 : Heap) (locs1 : List Loc) (ls1 : Array Slot), (∀ q ∈ locs1, gLo g ≤ q.base) → lv_has ls1 9 [(0, .ref b), (1, .ref a), (2, .ref o), (3, .ref (o + 10)), (4, .int (nI i))] → LI g a o H1 → W p l e R s m args below meth c H1 locs1 (cells + 6300) (slots + 50100) Q (F0 m 2951 ls1 [])) : W p l e R s m args below meth c H locs cells slots Q (F0 m 2157 ls []) := by
  have hx := X.1
  have hb := X.2.1
  have hKV := X.2.2.2.2.2.2.2.1.1
  have hlo := hB.1
  have hL120 := hB.2.2.2.2
  obtain ⟨⟨S, n, st, ln, hf, hs, hsk, hW⟩, f, hu⟩ := hI
  obtain ⟨hN, hn, hRO, hst, hs6, hln, hl6, hF, hG⟩ := hsk.mi
  refine lv_aload_n hx hb dL_law_2157 rfl (lv_at hl 1 rfl) ?_
  refine lv_aload_n hx hb dL_law_2158 rfl (lv_at hl 0 rfl) ?_
  refine lv_iload hx hb dL_law_2159 (lv_at hl 4 rfl) ?_
  refine lv_iconst (v := nI 1) hx hb dL_law_2161 (by decide) ?_
  refine n_iadd X dL_law_2162 ?_
  refine r_xld X hB hL (by omega) dL_law_2163 ?_
  refine lv_aload_n hx hb dL_law_2164 rfl (lv_at hl 0 rfl) ?_
  refine lv_iload hx hb dL_law_2165 (lv_at hl 4 rfl) ?_
  refine lv_iconst (v := nI 2) hx hb dL_law_2167 (by decide) ?_
  refine n_iadd X dL_law_2168 ?_
  refine r_xld X hB hL (by omega) dL_law_2169 ?_
  refine lv_aload_n hx hb dL_law_2170 rfl (lv_at hl 0 rfl) ?_
  refine lv_iload hx hb dL_law_2171 (lv_at hl 4 rfl) ?_
  refine lv_iconst (v := nI 3) hx hb dL_law_2173 (by decide) ?_
  refine n_iadd X dL_law_2174 ?_
  refine r_xld X hB hL (by omega) dL_law_2175 ?_
  refine lv_aload_n hx hb dL_law_2176 rfl (lv_at hl 0 rfl) ?_
  refine lv_iload hx hb dL_law_2177 (lv_at hl 4 rfl) ?_
  refine lv_iconst (v := nI 4) hx hb dL_law_2179 (by decide) ?_
  refine n_iadd X dL_law_2180 ?_
  refine r_xld X hB hL (by omega) dL_law_2181 ?_
  refine lv_aload_n hx hb dL_law_2182 rfl (lv_at hl 3 rfl) ?_
  refine Gr.callW (ct_X0_wouldBeTold l g (FF o) S n st ln hf hs a (xs (i + 1)) (xs (i + 2)) (xs (i + 3)) (xs (i + 4)) (o + 10) hl0 (FF_u o) (FF_lo hlo)) X hL hl sw_X0_wouldBeTold q1698 rfl rfl (Nat.le_of_ble_eq_true rfl) dL_law_2183 ⟨by have := hR.1; omega, by have := hR.2; omega⟩ (by omega) (by omega) ⟨hsk, _, hu⟩ (fun r H locs hL hp => ?_)
  obtain ⟨x, hxs, hr, hx3, hnum, ⟨f, hu⟩, hX, hC⟩ := WP.ex hp
  have hW := hW.keepC hC (fun q h1 h2 y => y.elim (fun y => y ⟨h1, by omega⟩) (fun y => by have y : q = o + 10 := y; omega))
  obtain ⟨b0, hv⟩ : ∃ b9, x.2.1 = some (.int (bI b9)) := by rw [hxs]; unfold s_bad; split <;> first | exact ⟨false, rfl⟩ | exact ⟨_, rfl⟩
  have hq : x.1 = 0 → Al g (o + 10) 1 (fun _ => (bI b0).toInt64) H := fun h => by obtain ⟨n9, e1, e2⟩ := hnum h; rw [hv] at e1; cases e1; exact e2
  subst hr
  refine lv_istore (lv' := [(5, .int _), (0, .ref _), (1, .ref _), (2, .ref _), (3, .ref _), (4, .int _)]) hx hb dL_law_2186 hl (by decide) rfl (fun ls hl => ?_)
  refine lv_aload_n hx hb dL_law_2188 rfl (lv_at hl 3 rfl) ?_
  refine lv_aload_n hx hb dL_law_2189 rfl (lv_at hl 1 rfl) ?_
  refine lv_iload hx hb dL_law_2190 (lv_at hl 5 rfl) ?_
  refine lv_iconst (v := nI 1) hx hb dL_law_2192 (by decide) ?_
  refine n_iadd X dL_law_2193 ?_
  refine r_xld X hB hL (by omega) dL_law_2194 ?_
  refine lv_aload_n hx hb dL_law_2195 rfl (lv_at hl 1 rfl) ?_
  refine lv_iload hx hb dL_law_2196 (lv_at hl 5 rfl) ?_
  refine lv_iconst (v := nI 2) hx hb dL_law_2198 (by decide) ?_
  refine n_iadd X dL_law_2199 ?_
  refine r_xld X hB hL (by omega) dL_law_2200 ?_
  refine lv_aload_n hx hb dL_law_2201 rfl (lv_at hl 1 rfl) ?_
  refine lv_iload hx hb dL_law_2202 (lv_at hl 5 rfl) ?_
  refine lv_iconst (v := nI 3) hx hb dL_law_2204 (by decide) ?_
  refine n_iadd X dL_law_2205 ?_
  refine r_xld X hB hL (by omega) dL_law_2206 ?_
  refine lv_aload_n hx hb dL_law_2207 rfl (lv_at hl 1 rfl) ?_
  refine lv_iload hx hb dL_law_2208 (lv_at hl 5 rfl) ?_
  refine lv_iconst (v := nI 4) hx hb dL_law_2210 (by decide) ?_
  refine n_iadd X dL_law_2211 ?_
  refine r_xld X hB hL (by omega) dL_law_2212 ?_
  refine Gr.callV (ct_X5_wouldBeTold l g o n S (xs (i + 1)) (xs (i + 2)) (xs (i + 3)) (xs (i + 4)) hN hn) X hL hl vb_X5_wouldBeTold q2168 (hW.2.1.recv hKV rfl) rfl rfl (Nat.le_of_ble_eq_true rfl) dL_law_2213 ⟨by have := hR.1; omega, by have := hR.2; omega⟩ (by omega) (by omega) hW (fun r H locs hL hp => ?_)
  obtain ⟨S1, hAP, hW, hO⟩ := hp
  obtain ⟨hSc, ht, hr⟩ : AP S1 x r := by rw [hxs]; exact hAP
  have hX := (hX.off hO hKV.gE hlo).sc hSc
  have hu := hu.at (hO.2 _ (Or.inr (by omega)))
  have hq : x.1 = 0 → Al g (o + 10) 1 (fun _ => (bI b0).toInt64) H := fun h => (hq h).at (hO.2 _ (Or.inr (by omega)))
  rw [hv] at hr
  subst hr
  refine lv_istore (lv' := [(6, .int _), (5, .int _), (0, .ref _), (1, .ref _), (2, .ref _), (3, .ref _), (4, .int _)]) hx hb dL_law_2216 hl (by decide) rfl (fun ls hl => ?_)
  refine lv_aload_n hx hb dL_law_2218 rfl (lv_at hl 4 rfl) ?_
  refine Gr.callV (ct_X5_thrown l g o S1) X hL hl vb_X5_thrown q1871 (hW.2.1.recv hKV rfl) rfl rfl (Nat.le_of_ble_eq_true rfl) dL_law_2219 ⟨by have := hR.1; omega, by have := hR.2; omega⟩ (by omega) (by omega) hW (fun r H9 locs hL hp => ?_)
  obtain ⟨rfl, e9⟩ := hp
  cases e9
  refine lv_iload hx hb dL_law_2222 (lv_at hl 1 rfl) ?_
  refine lv_icmp_eq (tgt := 2229) hx hb dL_law_2224 (by decide) (fun c_2224 => ?_) (fun c_2224 => ?_)
  ·
    refine lv_iload hx hb dL_law_2229 (lv_at hl 1 rfl) ?_
    refine n_ifne (tgt := 2253) X dL_law_2231 (by decide) (by omega) (fun c_2231 => ?_) (fun c_2231 => ?_)
    ·
      refine lv_goto (tgt := 2951) hx hb dL_law_2253 (by decide) ?_
      exact W.widen (by omega) (by omega) (kk _ _ _ hL (lv_sub hl [2, 3, 4, 5, 6] rfl) (LI.mk hX hW hu))
    ·
      have hu := hq c_2231
      refine lv_aload_n hx hb dL_law_2234 rfl (lv_at hl 5 rfl) ?_
      refine lv_iconst (v := nI 0) hx hb dL_law_2235 (by decide) ?_
      refine r_lld X hu 0 rfl (by decide) (by decide) dL_law_2236 ?_
      refine lv_iload hx hb dL_law_2237 (lv_at hl 0 rfl) ?_
      refine b_ifeq (tgt := 2246) X dL_law_2239 (by decide) (fun c_2239 => ?_) (fun c_2239 => ?_)
      ·
        refine lv_lconst (v := 0) hx hb dL_law_2246 (by decide) ?_
        refine r_lcmp X dL_law_2247 ?_
        refine lv_if_eq (tgt := 2253) hx hb dL_law_2248 (by decide) (fun c_2248 => ?_) (fun c_2248 => ?_)
        ·
          refine lv_goto (tgt := 2951) hx hb dL_law_2253 (by decide) ?_
          exact W.widen (by omega) (by omega) (kk _ _ _ hL (lv_sub hl [2, 3, 4, 5, 6] rfl) (LI.mk hX hW hu))
        ·
          exact (c_2248 (lcI_0.mpr (by rw [c_2239]; rfl))).elim
      ·
        refine lv_lconst (v := 1) hx hb dL_law_2242 (by decide) ?_
        refine lv_goto (tgt := 2247) hx hb dL_law_2243 (by decide) ?_
        refine r_lcmp X dL_law_2247 ?_
        refine lv_if_eq (tgt := 2253) hx hb dL_law_2248 (by decide) (fun c_2248 => ?_) (fun c_2248 => ?_)
        ·
          refine lv_goto (tgt := 2951) hx hb dL_law_2253 (by decide) ?_
          exact W.widen (by omega) (by omega) (kk _ _ _ hL (lv_sub hl [2, 3, 4, 5, 6] rfl) (LI.mk hX hW hu))
        ·
          exact (c_2248 (lcI_0.mpr (by rw [c_2239]; rfl))).elim
  ·
    exact absurd ht c_2224

set_option maxRecDepth 100000 in
set_option maxHeartbeats 4000000 in
theorem lc_40 (X : Cx p g s m args meth c cL_law 9 (yL nm) ret) (hl0 : l.stackTraces = false) (hB : LB g o b L xs s) (hR : LR R) (hi : i + 4 < L) (hL : ∀ q ∈ locs, gLo g ≤ q.base) (hl : lv_has ls 9 [(0, .ref b), (1, .ref a), (2, .ref o), (3, .ref (o + 10)), (4, .int (nI i))]) (hI : LI g a o H) (hc : cells + 6300 ≤ R.cells) (hsl : slots + 50100 ≤ R.slots)
    (kk : ∀ (H1 : Heap) (locs1 : List Loc) (ls1 : Array Slot), (∀ q ∈ locs1, gLo g ≤ q.base) → lv_has ls1 9 [(0, .ref b), (1, .ref a), (2, .ref o), (3, .ref (o + 10)), (4, .int (nI i))] → LI g a o H1 → W p l e R s m args below meth c H1 locs1 (cells + 6300) (slots + 50100) Q (F0 m 2951 ls1 [])) : W p l e R s m args below meth c H locs cells slots Q (F0 m 2256 ls []) := by
  have hx := X.1
  have hb := X.2.1
  have hKV := X.2.2.2.2.2.2.2.1.1
  have hlo := hB.1
  have hL120 := hB.2.2.2.2
  obtain ⟨⟨S, n, st, ln, hf, hs, hsk, hW⟩, f, hu⟩ := hI
  obtain ⟨hN, hn, hRO, hst, hs6, hln, hl6, hF, hG⟩ := hsk.mi
  refine lv_aload_n hx hb dL_law_2256 rfl (lv_at hl 1 rfl) ?_
  refine lv_aload_n hx hb dL_law_2257 rfl (lv_at hl 0 rfl) ?_
  refine lv_iload hx hb dL_law_2258 (lv_at hl 4 rfl) ?_
  refine lv_iconst (v := nI 1) hx hb dL_law_2260 (by decide) ?_
  refine n_iadd X dL_law_2261 ?_
  refine r_xld X hB hL (by omega) dL_law_2262 ?_
  refine lv_aload_n hx hb dL_law_2263 rfl (lv_at hl 0 rfl) ?_
  refine lv_iload hx hb dL_law_2264 (lv_at hl 4 rfl) ?_
  refine lv_iconst (v := nI 2) hx hb dL_law_2266 (by decide) ?_
  refine n_iadd X dL_law_2267 ?_
  refine r_xld X hB hL (by omega) dL_law_2268 ?_
  refine lv_aload_n hx hb dL_law_2269 rfl (lv_at hl 0 rfl) ?_
  refine lv_iload hx hb dL_law_2270 (lv_at hl 4 rfl) ?_
  refine lv_iconst (v := nI 3) hx hb dL_law_2272 (by decide) ?_
  refine n_iadd X dL_law_2273 ?_
  refine r_xld X hB hL (by omega) dL_law_2274 ?_
  refine lv_aload_n hx hb dL_law_2275 rfl (lv_at hl 0 rfl) ?_
  refine lv_iload hx hb dL_law_2276 (lv_at hl 4 rfl) ?_
  refine lv_iconst (v := nI 4) hx hb dL_law_2278 (by decide) ?_
  refine n_iadd X dL_law_2279 ?_
  refine r_xld X hB hL (by omega) dL_law_2280 ?_
  refine lv_aload_n hx hb dL_law_2281 rfl (lv_at hl 3 rfl) ?_
  refine Gr.callW (ct_X0_wouldBeat l g (FF o) S n st ln hf hs a (xs (i + 1)) (xs (i + 2)) (xs (i + 3)) (xs (i + 4)) (o + 10) hl0 (FF_u o) (FF_lo hlo)) X hL hl sw_X0_wouldBeat q1709 rfl rfl (Nat.le_of_ble_eq_true rfl) dL_law_2282 ⟨by have := hR.1; omega, by have := hR.2; omega⟩ (by omega) (by omega) ⟨hsk, _, hu⟩ (fun r H locs hL hp => ?_)
  obtain ⟨x, hxs, hr, hx3, hnum, ⟨f, hu⟩, hX, hC⟩ := WP.ex hp
  have hW := hW.keepC hC (fun q h1 h2 y => y.elim (fun y => y ⟨h1, by omega⟩) (fun y => by have y : q = o + 10 := y; omega))
  obtain ⟨v0, hv⟩ : ∃ v9, x.2.1 = some (.int v9) := by rw [hxs]; unfold s_bad; (repeat' split) <;> exact ⟨_, rfl⟩
  have hq : x.1 = 0 → Al g (o + 10) 1 (fun _ => v0.toInt64) H := fun h => by obtain ⟨n9, e1, e2⟩ := hnum h; rw [hv] at e1; cases e1; exact e2
  subst hr
  refine lv_istore (lv' := [(5, .int _), (0, .ref _), (1, .ref _), (2, .ref _), (3, .ref _), (4, .int _)]) hx hb dL_law_2285 hl (by decide) rfl (fun ls hl => ?_)
  refine lv_aload_n hx hb dL_law_2287 rfl (lv_at hl 3 rfl) ?_
  refine lv_aload_n hx hb dL_law_2288 rfl (lv_at hl 1 rfl) ?_
  refine lv_iload hx hb dL_law_2289 (lv_at hl 5 rfl) ?_
  refine lv_iconst (v := nI 1) hx hb dL_law_2291 (by decide) ?_
  refine n_iadd X dL_law_2292 ?_
  refine r_xld X hB hL (by omega) dL_law_2293 ?_
  refine lv_aload_n hx hb dL_law_2294 rfl (lv_at hl 1 rfl) ?_
  refine lv_iload hx hb dL_law_2295 (lv_at hl 5 rfl) ?_
  refine lv_iconst (v := nI 2) hx hb dL_law_2297 (by decide) ?_
  refine n_iadd X dL_law_2298 ?_
  refine r_xld X hB hL (by omega) dL_law_2299 ?_
  refine lv_aload_n hx hb dL_law_2300 rfl (lv_at hl 1 rfl) ?_
  refine lv_iload hx hb dL_law_2301 (lv_at hl 5 rfl) ?_
  refine lv_iconst (v := nI 3) hx hb dL_law_2303 (by decide) ?_
  refine n_iadd X dL_law_2304 ?_
  refine r_xld X hB hL (by omega) dL_law_2305 ?_
  refine lv_aload_n hx hb dL_law_2306 rfl (lv_at hl 1 rfl) ?_
  refine lv_iload hx hb dL_law_2307 (lv_at hl 5 rfl) ?_
  refine lv_iconst (v := nI 4) hx hb dL_law_2309 (by decide) ?_
  refine n_iadd X dL_law_2310 ?_
  refine r_xld X hB hL (by omega) dL_law_2311 ?_
  refine Gr.callV (ct_X5_wouldBeat l g o n S (xs (i + 1)) (xs (i + 2)) (xs (i + 3)) (xs (i + 4)) hN hn) X hL hl vb_X5_wouldBeat q2191 (hW.2.1.recv hKV rfl) rfl rfl (Nat.le_of_ble_eq_true rfl) dL_law_2312 ⟨by have := hR.1; omega, by have := hR.2; omega⟩ (by omega) (by omega) hW (fun r H locs hL hp => ?_)
  obtain ⟨S1, hAP, hW, hO⟩ := hp
  obtain ⟨hSc, ht, hr⟩ : AP S1 x r := by rw [hxs]; exact hAP
  have hX := (hX.off hO hKV.gE hlo).sc hSc
  have hu := hu.at (hO.2 _ (Or.inr (by omega)))
  have hq : x.1 = 0 → Al g (o + 10) 1 (fun _ => v0.toInt64) H := fun h => (hq h).at (hO.2 _ (Or.inr (by omega)))
  rw [hv] at hr
  subst hr
  refine lv_istore (lv' := [(6, .int _), (5, .int _), (0, .ref _), (1, .ref _), (2, .ref _), (3, .ref _), (4, .int _)]) hx hb dL_law_2315 hl (by decide) rfl (fun ls hl => ?_)
  refine lv_aload_n hx hb dL_law_2317 rfl (lv_at hl 4 rfl) ?_
  refine Gr.callV (ct_X5_thrown l g o S1) X hL hl vb_X5_thrown q1871 (hW.2.1.recv hKV rfl) rfl rfl (Nat.le_of_ble_eq_true rfl) dL_law_2318 ⟨by have := hR.1; omega, by have := hR.2; omega⟩ (by omega) (by omega) hW (fun r H9 locs hL hp => ?_)
  obtain ⟨rfl, e9⟩ := hp
  cases e9
  refine lv_iload hx hb dL_law_2321 (lv_at hl 1 rfl) ?_
  refine lv_icmp_eq (tgt := 2328) hx hb dL_law_2323 (by decide) (fun c_2323 => ?_) (fun c_2323 => ?_)
  ·
    refine lv_iload hx hb dL_law_2328 (lv_at hl 1 rfl) ?_
    refine n_ifne (tgt := 2345) X dL_law_2330 (by decide) (by omega) (fun c_2330 => ?_) (fun c_2330 => ?_)
    ·
      refine lv_goto (tgt := 2951) hx hb dL_law_2345 (by decide) ?_
      exact W.widen (by omega) (by omega) (kk _ _ _ hL (lv_sub hl [2, 3, 4, 5, 6] rfl) (LI.mk hX hW hu))
    ·
      have hu := hq c_2330
      refine lv_aload_n hx hb dL_law_2333 rfl (lv_at hl 5 rfl) ?_
      refine lv_iconst (v := nI 0) hx hb dL_law_2334 (by decide) ?_
      refine r_lld X hu 0 rfl (by decide) (by decide) dL_law_2335 ?_
      refine lv_iload hx hb dL_law_2336 (lv_at hl 0 rfl) ?_
      refine lv_i2l hx hb dL_law_2338 rfl ?_
      refine r_lcmp X dL_law_2339 ?_
      refine lv_if_eq (tgt := 2345) hx hb dL_law_2340 (by decide) (fun c_2340 => ?_) (fun c_2340 => ?_)
      ·
        refine lv_goto (tgt := 2951) hx hb dL_law_2345 (by decide) ?_
        exact W.widen (by omega) (by omega) (kk _ _ _ hL (lv_sub hl [2, 3, 4, 5, 6] rfl) (LI.mk hX hW hu))
      ·
        exact (c_2340 (lcI_0.mpr rfl)).elim
  ·
    exact absurd ht c_2323

set_option maxRecDepth 100000 in
set_option maxHeartbeats 4000000 in
theorem lc_41 (X : Cx p g s m args meth c cL_law 9 (yL nm) ret) (hl0 : l.stackTraces = false) (hB : LB g o b L xs s) (hR : LR R) (hi : i + 4 < L) (hL : ∀ q ∈ locs, gLo g ≤ q.base) (hl : lv_has ls 9 [(0, .ref b), (1, .ref a), (2, .ref o), (3, .ref (o + 10)), (4, .int (nI i))]) (hI : LI g a o H) (hc : cells + 6300 ≤ R.cells) (hsl : slots + 50100 ≤ R.slots)
    (kk : ∀ (H1 : Heap) (locs1 : List Loc) (ls1 : Array Slot), (∀ q ∈ locs1, gLo g ≤ q.base) → lv_has ls1 9 [(0, .ref b), (1, .ref a), (2, .ref o), (3, .ref (o + 10)), (4, .int (nI i))] → LI g a o H1 → W p l e R s m args below meth c H1 locs1 (cells + 6300) (slots + 50100) Q (F0 m 2951 ls1 [])) : W p l e R s m args below meth c H locs cells slots Q (F0 m 2348 ls []) := by
  have hx := X.1
  have hb := X.2.1
  have hKV := X.2.2.2.2.2.2.2.1.1
  have hlo := hB.1
  have hL120 := hB.2.2.2.2
  obtain ⟨⟨S, n, st, ln, hf, hs, hsk, hW⟩, f, hu⟩ := hI
  obtain ⟨hN, hn, hRO, hst, hs6, hln, hl6, hF, hG⟩ := hsk.mi
  refine lv_aload_n hx hb dL_law_2348 rfl (lv_at hl 1 rfl) ?_
  refine lv_aload_n hx hb dL_law_2349 rfl (lv_at hl 0 rfl) ?_
  refine lv_iload hx hb dL_law_2350 (lv_at hl 4 rfl) ?_
  refine lv_iconst (v := nI 1) hx hb dL_law_2352 (by decide) ?_
  refine n_iadd X dL_law_2353 ?_
  refine r_xld X hB hL (by omega) dL_law_2354 ?_
  refine lv_aload_n hx hb dL_law_2355 rfl (lv_at hl 0 rfl) ?_
  refine lv_iload hx hb dL_law_2356 (lv_at hl 4 rfl) ?_
  refine lv_iconst (v := nI 2) hx hb dL_law_2358 (by decide) ?_
  refine n_iadd X dL_law_2359 ?_
  refine r_xld X hB hL (by omega) dL_law_2360 ?_
  refine lv_aload_n hx hb dL_law_2361 rfl (lv_at hl 3 rfl) ?_
  refine Gr.callW (ct_X0_raiseByTrying l g (FF o) S n st ln hf hs a (xs (i + 1)) (xs (i + 2)) (o + 10) hl0 (FF_u o) (FF_lo hlo)) X hL hl sw_X0_raiseByTrying q1723 rfl rfl (Nat.le_of_ble_eq_true rfl) dL_law_2362 ⟨by have := hR.1; omega, by have := hR.2; omega⟩ (by omega) (by omega) ⟨hsk, _, hu⟩ (fun r H locs hL hp => ?_)
  obtain ⟨x, hxs, hr, hx3, hnum, ⟨f, hu⟩, hX, hC⟩ := WP.ex hp
  have hW := hW.keepC hC (fun q h1 h2 y => y.elim (fun y => y ⟨h1, by omega⟩) (fun y => by have y : q = o + 10 := y; omega))
  obtain ⟨v0, hv⟩ : ∃ v9, x.2.1 = some (.int v9) := by rw [hxs]; unfold s_raise; (repeat' split) <;> exact ⟨_, rfl⟩
  have hq : x.1 = 0 → Al g (o + 10) 1 (fun _ => v0.toInt64) H := fun h => by obtain ⟨n9, e1, e2⟩ := hnum h; rw [hv] at e1; cases e1; exact e2
  subst hr
  refine lv_istore (lv' := [(5, .int _), (0, .ref _), (1, .ref _), (2, .ref _), (3, .ref _), (4, .int _)]) hx hb dL_law_2365 hl (by decide) rfl (fun ls hl => ?_)
  refine lv_aload_n hx hb dL_law_2367 rfl (lv_at hl 3 rfl) ?_
  refine lv_aload_n hx hb dL_law_2368 rfl (lv_at hl 1 rfl) ?_
  refine lv_iload hx hb dL_law_2369 (lv_at hl 5 rfl) ?_
  refine lv_iconst (v := nI 1) hx hb dL_law_2371 (by decide) ?_
  refine n_iadd X dL_law_2372 ?_
  refine r_xld X hB hL (by omega) dL_law_2373 ?_
  refine lv_aload_n hx hb dL_law_2374 rfl (lv_at hl 1 rfl) ?_
  refine lv_iload hx hb dL_law_2375 (lv_at hl 5 rfl) ?_
  refine lv_iconst (v := nI 2) hx hb dL_law_2377 (by decide) ?_
  refine n_iadd X dL_law_2378 ?_
  refine r_xld X hB hL (by omega) dL_law_2379 ?_
  refine Gr.callV (ct_X5_raiseByTrying l g o n S (xs (i + 1)) (xs (i + 2)) hN hn hRO) X hL hl vb_X5_raiseByTrying q2195 (hW.2.1.recv hKV rfl) rfl rfl (Nat.le_of_ble_eq_true rfl) dL_law_2380 ⟨by have := hR.1; omega, by have := hR.2; omega⟩ (by omega) (by omega) hW (fun r H locs hL hp => ?_)
  obtain ⟨S1, hAP, hW, hO⟩ := hp
  obtain ⟨hSc, ht, hr⟩ : AP S1 x r := by rw [hxs]; exact hAP
  have hX := (hX.off hO hKV.gE hlo).sc hSc
  have hu := hu.at (hO.2 _ (Or.inr (by omega)))
  have hq : x.1 = 0 → Al g (o + 10) 1 (fun _ => v0.toInt64) H := fun h => (hq h).at (hO.2 _ (Or.inr (by omega)))
  rw [hv] at hr
  subst hr
  refine lv_istore (lv' := [(6, .int _), (5, .int _), (0, .ref _), (1, .ref _), (2, .ref _), (3, .ref _), (4, .int _)]) hx hb dL_law_2383 hl (by decide) rfl (fun ls hl => ?_)
  refine lv_aload_n hx hb dL_law_2385 rfl (lv_at hl 4 rfl) ?_
  refine Gr.callV (ct_X5_thrown l g o S1) X hL hl vb_X5_thrown q1871 (hW.2.1.recv hKV rfl) rfl rfl (Nat.le_of_ble_eq_true rfl) dL_law_2386 ⟨by have := hR.1; omega, by have := hR.2; omega⟩ (by omega) (by omega) hW (fun r H9 locs hL hp => ?_)
  obtain ⟨rfl, e9⟩ := hp
  cases e9
  refine lv_iload hx hb dL_law_2389 (lv_at hl 1 rfl) ?_
  refine lv_icmp_eq (tgt := 2396) hx hb dL_law_2391 (by decide) (fun c_2391 => ?_) (fun c_2391 => ?_)
  ·
    refine lv_iload hx hb dL_law_2396 (lv_at hl 1 rfl) ?_
    refine n_ifne (tgt := 2413) X dL_law_2398 (by decide) (by omega) (fun c_2398 => ?_) (fun c_2398 => ?_)
    ·
      refine lv_goto (tgt := 2951) hx hb dL_law_2413 (by decide) ?_
      exact W.widen (by omega) (by omega) (kk _ _ _ hL (lv_sub hl [2, 3, 4, 5, 6] rfl) (LI.mk hX hW hu))
    ·
      have hu := hq c_2398
      refine lv_aload_n hx hb dL_law_2401 rfl (lv_at hl 5 rfl) ?_
      refine lv_iconst (v := nI 0) hx hb dL_law_2402 (by decide) ?_
      refine r_lld X hu 0 rfl (by decide) (by decide) dL_law_2403 ?_
      refine lv_iload hx hb dL_law_2404 (lv_at hl 0 rfl) ?_
      refine lv_i2l hx hb dL_law_2406 rfl ?_
      refine r_lcmp X dL_law_2407 ?_
      refine lv_if_eq (tgt := 2413) hx hb dL_law_2408 (by decide) (fun c_2408 => ?_) (fun c_2408 => ?_)
      ·
        refine lv_goto (tgt := 2951) hx hb dL_law_2413 (by decide) ?_
        exact W.widen (by omega) (by omega) (kk _ _ _ hL (lv_sub hl [2, 3, 4, 5, 6] rfl) (LI.mk hX hW hu))
      ·
        exact (c_2408 (lcI_0.mpr rfl)).elim
  ·
    exact absurd ht c_2391

set_option maxRecDepth 100000 in
set_option maxHeartbeats 4000000 in
theorem lc_42 (X : Cx p g s m args meth c cL_law 9 (yL nm) ret) (hl0 : l.stackTraces = false) (hB : LB g o b L xs s) (hR : LR R) (hi : i + 4 < L) (hL : ∀ q ∈ locs, gLo g ≤ q.base) (hl : lv_has ls 9 [(0, .ref b), (1, .ref a), (2, .ref o), (3, .ref (o + 10)), (4, .int (nI i))]) (hI : LI g a o H) (hc : cells + 6300 ≤ R.cells) (hsl : slots + 50100 ≤ R.slots)
    (kk : ∀ (H1 : Heap) (locs1 : List Loc) (ls1 : Array Slot), (∀ q ∈ locs1, gLo g ≤ q.base) → lv_has ls1 9 [(0, .ref b), (1, .ref a), (2, .ref o), (3, .ref (o + 10)), (4, .int (nI i))] → LI g a o H1 → W p l e R s m args below meth c H1 locs1 (cells + 6300) (slots + 50100) Q (F0 m 2951 ls1 [])) : W p l e R s m args below meth c H locs cells slots Q (F0 m 2416 ls []) := by
  have hx := X.1
  have hb := X.2.1
  have hKV := X.2.2.2.2.2.2.2.1.1
  have hlo := hB.1
  have hL120 := hB.2.2.2.2
  obtain ⟨⟨S, n, st, ln, hf, hs, hsk, hW⟩, f, hu⟩ := hI
  obtain ⟨hN, hn, hRO, hst, hs6, hln, hl6, hF, hG⟩ := hsk.mi
  refine lv_aload_n hx hb dL_law_2416 rfl (lv_at hl 1 rfl) ?_
  refine lv_aload_n hx hb dL_law_2417 rfl (lv_at hl 0 rfl) ?_
  refine lv_iload hx hb dL_law_2418 (lv_at hl 4 rfl) ?_
  refine lv_iconst (v := nI 1) hx hb dL_law_2420 (by decide) ?_
  refine n_iadd X dL_law_2421 ?_
  refine r_xld X hB hL (by omega) dL_law_2422 ?_
  refine lv_aload_n hx hb dL_law_2423 rfl (lv_at hl 0 rfl) ?_
  refine lv_iload hx hb dL_law_2424 (lv_at hl 4 rfl) ?_
  refine lv_iconst (v := nI 2) hx hb dL_law_2426 (by decide) ?_
  refine n_iadd X dL_law_2427 ?_
  refine r_xld X hB hL (by omega) dL_law_2428 ?_
  refine lv_aload_n hx hb dL_law_2429 rfl (lv_at hl 3 rfl) ?_
  refine Gr.callW (ct_X0_raiseByBeaters l g (FF o) S n st ln hf hs a (xs (i + 1)) (xs (i + 2)) (o + 10) hl0 (FF_u o) (FF_lo hlo)) X hL hl sw_X0_raiseByBeaters q1752 rfl rfl (Nat.le_of_ble_eq_true rfl) dL_law_2430 ⟨by have := hR.1; omega, by have := hR.2; omega⟩ (by omega) (by omega) ⟨hsk, _, hu⟩ (fun r H locs hL hp => ?_)
  obtain ⟨x, hxs, hr, hx3, hnum, ⟨f, hu⟩, hX, hC⟩ := WP.ex hp
  have hW := hW.keepC hC (fun q h1 h2 y => y.elim (fun y => y ⟨h1, by omega⟩) (fun y => by have y : q = o + 10 := y; omega))
  obtain ⟨v0, hv⟩ : ∃ v9, x.2.1 = some (.int v9) := by rw [hxs]; unfold s_raise; (repeat' split) <;> exact ⟨_, rfl⟩
  have hq : x.1 = 0 → Al g (o + 10) 1 (fun _ => v0.toInt64) H := fun h => by obtain ⟨n9, e1, e2⟩ := hnum h; rw [hv] at e1; cases e1; exact e2
  subst hr
  refine lv_istore (lv' := [(5, .int _), (0, .ref _), (1, .ref _), (2, .ref _), (3, .ref _), (4, .int _)]) hx hb dL_law_2433 hl (by decide) rfl (fun ls hl => ?_)
  refine lv_aload_n hx hb dL_law_2435 rfl (lv_at hl 3 rfl) ?_
  refine lv_aload_n hx hb dL_law_2436 rfl (lv_at hl 1 rfl) ?_
  refine lv_iload hx hb dL_law_2437 (lv_at hl 5 rfl) ?_
  refine lv_iconst (v := nI 1) hx hb dL_law_2439 (by decide) ?_
  refine n_iadd X dL_law_2440 ?_
  refine r_xld X hB hL (by omega) dL_law_2441 ?_
  refine lv_aload_n hx hb dL_law_2442 rfl (lv_at hl 1 rfl) ?_
  refine lv_iload hx hb dL_law_2443 (lv_at hl 5 rfl) ?_
  refine lv_iconst (v := nI 2) hx hb dL_law_2445 (by decide) ?_
  refine n_iadd X dL_law_2446 ?_
  refine r_xld X hB hL (by omega) dL_law_2447 ?_
  refine Gr.callV (ct_X5_raiseByBeaters l g o n S (xs (i + 1)) (xs (i + 2)) hN hn hRO) X hL hl vb_X5_raiseByBeaters q2203 (hW.2.1.recv hKV rfl) rfl rfl (Nat.le_of_ble_eq_true rfl) dL_law_2448 ⟨by have := hR.1; omega, by have := hR.2; omega⟩ (by omega) (by omega) hW (fun r H locs hL hp => ?_)
  obtain ⟨S1, hAP, hW, hO⟩ := hp
  obtain ⟨hSc, ht, hr⟩ : AP S1 x r := by rw [hxs]; exact hAP
  have hX := (hX.off hO hKV.gE hlo).sc hSc
  have hu := hu.at (hO.2 _ (Or.inr (by omega)))
  have hq : x.1 = 0 → Al g (o + 10) 1 (fun _ => v0.toInt64) H := fun h => (hq h).at (hO.2 _ (Or.inr (by omega)))
  rw [hv] at hr
  subst hr
  refine lv_istore (lv' := [(6, .int _), (5, .int _), (0, .ref _), (1, .ref _), (2, .ref _), (3, .ref _), (4, .int _)]) hx hb dL_law_2451 hl (by decide) rfl (fun ls hl => ?_)
  refine lv_aload_n hx hb dL_law_2453 rfl (lv_at hl 4 rfl) ?_
  refine Gr.callV (ct_X5_thrown l g o S1) X hL hl vb_X5_thrown q1871 (hW.2.1.recv hKV rfl) rfl rfl (Nat.le_of_ble_eq_true rfl) dL_law_2454 ⟨by have := hR.1; omega, by have := hR.2; omega⟩ (by omega) (by omega) hW (fun r H9 locs hL hp => ?_)
  obtain ⟨rfl, e9⟩ := hp
  cases e9
  refine lv_iload hx hb dL_law_2457 (lv_at hl 1 rfl) ?_
  refine lv_icmp_eq (tgt := 2464) hx hb dL_law_2459 (by decide) (fun c_2459 => ?_) (fun c_2459 => ?_)
  ·
    refine lv_iload hx hb dL_law_2464 (lv_at hl 1 rfl) ?_
    refine n_ifne (tgt := 2481) X dL_law_2466 (by decide) (by omega) (fun c_2466 => ?_) (fun c_2466 => ?_)
    ·
      refine lv_goto (tgt := 2951) hx hb dL_law_2481 (by decide) ?_
      exact W.widen (by omega) (by omega) (kk _ _ _ hL (lv_sub hl [2, 3, 4, 5, 6] rfl) (LI.mk hX hW hu))
    ·
      have hu := hq c_2466
      refine lv_aload_n hx hb dL_law_2469 rfl (lv_at hl 5 rfl) ?_
      refine lv_iconst (v := nI 0) hx hb dL_law_2470 (by decide) ?_
      refine r_lld X hu 0 rfl (by decide) (by decide) dL_law_2471 ?_
      refine lv_iload hx hb dL_law_2472 (lv_at hl 0 rfl) ?_
      refine lv_i2l hx hb dL_law_2474 rfl ?_
      refine r_lcmp X dL_law_2475 ?_
      refine lv_if_eq (tgt := 2481) hx hb dL_law_2476 (by decide) (fun c_2476 => ?_) (fun c_2476 => ?_)
      ·
        refine lv_goto (tgt := 2951) hx hb dL_law_2481 (by decide) ?_
        exact W.widen (by omega) (by omega) (kk _ _ _ hL (lv_sub hl [2, 3, 4, 5, 6] rfl) (LI.mk hX hW hu))
      ·
        exact (c_2476 (lcI_0.mpr rfl)).elim
  ·
    exact absurd ht c_2459

set_option maxRecDepth 100000 in
set_option maxHeartbeats 4000000 in
theorem lc_43 (X : Cx p g s m args meth c cL_law 9 (yL nm) ret) (hl0 : l.stackTraces = false) (hB : LB g o b L xs s) (hR : LR R) (hi : i + 4 < L) (hL : ∀ q ∈ locs, gLo g ≤ q.base) (hl : lv_has ls 9 [(0, .ref b), (1, .ref a), (2, .ref o), (3, .ref (o + 10)), (4, .int (nI i))]) (hI : LI g a o H) (hc : cells + 6300 ≤ R.cells) (hsl : slots + 50100 ≤ R.slots)
    (kk : ∀ (H1 : Heap) (locs1 : List Loc) (ls1 : Array Slot), (∀ q ∈ locs1, gLo g ≤ q.base) → lv_has ls1 9 [(0, .ref b), (1, .ref a), (2, .ref o), (3, .ref (o + 10)), (4, .int (nI i))] → LI g a o H1 → W p l e R s m args below meth c H1 locs1 (cells + 6300) (slots + 50100) Q (F0 m 2951 ls1 [])) : W p l e R s m args below meth c H locs cells slots Q (F0 m 2484 ls []) := by
  have hx := X.1
  have hb := X.2.1
  have hKV := X.2.2.2.2.2.2.2.1.1
  have hlo := hB.1
  have hL120 := hB.2.2.2.2
  obtain ⟨⟨S, n, st, ln, hf, hs, hsk, hW⟩, f, hu⟩ := hI
  obtain ⟨hN, hn, hRO, hst, hs6, hln, hl6, hF, hG⟩ := hsk.mi
  refine lv_aload_n hx hb dL_law_2484 rfl (lv_at hl 1 rfl) ?_
  refine lv_aload_n hx hb dL_law_2485 rfl (lv_at hl 0 rfl) ?_
  refine lv_iload hx hb dL_law_2486 (lv_at hl 4 rfl) ?_
  refine lv_iconst (v := nI 1) hx hb dL_law_2488 (by decide) ?_
  refine n_iadd X dL_law_2489 ?_
  refine r_xld X hB hL (by omega) dL_law_2490 ?_
  refine lv_aload_n hx hb dL_law_2491 rfl (lv_at hl 3 rfl) ?_
  refine Gr.callW (ct_X0_coveredGreedily l g (FF o) S n st ln hf hs a (xs (i + 1)) (o + 10) hl0 (FF_u o) (FF_lo hlo)) X hL hl sw_X0_coveredGreedily q1768 rfl rfl (Nat.le_of_ble_eq_true rfl) dL_law_2492 ⟨by have := hR.1; omega, by have := hR.2; omega⟩ (by omega) (by omega) ⟨hsk, _, hu⟩ (fun r H locs hL hp => ?_)
  obtain ⟨x, hxs, hr, hx3, hnum, ⟨f, hu⟩, hX, hC⟩ := WP.ex hp
  have hW := hW.keepC hC (fun q h1 h2 y => y.elim (fun y => y ⟨h1, by omega⟩) (fun y => by have y : q = o + 10 := y; omega))
  obtain ⟨v0, hv⟩ : ∃ v9, x.2.1 = some (.int v9) := by rw [hxs]; unfold s_bad; (repeat' split) <;> exact ⟨_, rfl⟩
  have hq : x.1 = 0 → Al g (o + 10) 1 (fun _ => v0.toInt64) H := fun h => by obtain ⟨n9, e1, e2⟩ := hnum h; rw [hv] at e1; cases e1; exact e2
  subst hr
  refine lv_istore (lv' := [(5, .int _), (0, .ref _), (1, .ref _), (2, .ref _), (3, .ref _), (4, .int _)]) hx hb dL_law_2495 hl (by decide) rfl (fun ls hl => ?_)
  refine lv_aload_n hx hb dL_law_2497 rfl (lv_at hl 3 rfl) ?_
  refine lv_aload_n hx hb dL_law_2498 rfl (lv_at hl 1 rfl) ?_
  refine lv_iload hx hb dL_law_2499 (lv_at hl 5 rfl) ?_
  refine lv_iconst (v := nI 1) hx hb dL_law_2501 (by decide) ?_
  refine n_iadd X dL_law_2502 ?_
  refine r_xld X hB hL (by omega) dL_law_2503 ?_
  refine Gr.callV (ct_X5_coveredGreedily l g o n S (xs (i + 1)) hN hn) X hL hl vb_X5_coveredGreedily q2208 (hW.2.1.recv hKV rfl) rfl rfl (Nat.le_of_ble_eq_true rfl) dL_law_2504 ⟨by have := hR.1; omega, by have := hR.2; omega⟩ (by omega) (by omega) hW (fun r H locs hL hp => ?_)
  obtain ⟨S1, hAP, hW, hO⟩ := hp
  obtain ⟨hSc, ht, hr⟩ : AP S1 x r := by rw [hxs]; exact hAP
  have hX := (hX.off hO hKV.gE hlo).sc hSc
  have hu := hu.at (hO.2 _ (Or.inr (by omega)))
  have hq : x.1 = 0 → Al g (o + 10) 1 (fun _ => v0.toInt64) H := fun h => (hq h).at (hO.2 _ (Or.inr (by omega)))
  rw [hv] at hr
  subst hr
  refine lv_istore (lv' := [(6, .int _), (5, .int _), (0, .ref _), (1, .ref _), (2, .ref _), (3, .ref _), (4, .int _)]) hx hb dL_law_2507 hl (by decide) rfl (fun ls hl => ?_)
  refine lv_aload_n hx hb dL_law_2509 rfl (lv_at hl 4 rfl) ?_
  refine Gr.callV (ct_X5_thrown l g o S1) X hL hl vb_X5_thrown q1871 (hW.2.1.recv hKV rfl) rfl rfl (Nat.le_of_ble_eq_true rfl) dL_law_2510 ⟨by have := hR.1; omega, by have := hR.2; omega⟩ (by omega) (by omega) hW (fun r H9 locs hL hp => ?_)
  obtain ⟨rfl, e9⟩ := hp
  cases e9
  refine lv_iload hx hb dL_law_2513 (lv_at hl 1 rfl) ?_
  refine lv_icmp_eq (tgt := 2520) hx hb dL_law_2515 (by decide) (fun c_2515 => ?_) (fun c_2515 => ?_)
  ·
    refine lv_iload hx hb dL_law_2520 (lv_at hl 1 rfl) ?_
    refine n_ifne (tgt := 2537) X dL_law_2522 (by decide) (by omega) (fun c_2522 => ?_) (fun c_2522 => ?_)
    ·
      refine lv_goto (tgt := 2951) hx hb dL_law_2537 (by decide) ?_
      exact W.widen (by omega) (by omega) (kk _ _ _ hL (lv_sub hl [2, 3, 4, 5, 6] rfl) (LI.mk hX hW hu))
    ·
      have hu := hq c_2522
      refine lv_aload_n hx hb dL_law_2525 rfl (lv_at hl 5 rfl) ?_
      refine lv_iconst (v := nI 0) hx hb dL_law_2526 (by decide) ?_
      refine r_lld X hu 0 rfl (by decide) (by decide) dL_law_2527 ?_
      refine lv_iload hx hb dL_law_2528 (lv_at hl 0 rfl) ?_
      refine lv_i2l hx hb dL_law_2530 rfl ?_
      refine r_lcmp X dL_law_2531 ?_
      refine lv_if_eq (tgt := 2537) hx hb dL_law_2532 (by decide) (fun c_2532 => ?_) (fun c_2532 => ?_)
      ·
        refine lv_goto (tgt := 2951) hx hb dL_law_2537 (by decide) ?_
        exact W.widen (by omega) (by omega) (kk _ _ _ hL (lv_sub hl [2, 3, 4, 5, 6] rfl) (LI.mk hX hW hu))
      ·
        exact (c_2532 (lcI_0.mpr rfl)).elim
  ·
    exact absurd ht c_2515

set_option maxRecDepth 100000 in
set_option maxHeartbeats 4000000 in
theorem lc_44 (X : Cx p g s m args meth c cL_law 9 (yL nm) ret) (hl0 : l.stackTraces = false) (hB : LB g o b L xs s) (hR : LR R) (hi : i + 4 < L) (hL : ∀ q ∈ locs, gLo g ≤ q.base) (hl : lv_has ls 9 [(0, .ref b), (1, .ref a), (2, .ref o), (3, .ref (o + 10)), (4, .int (nI i))]) (hI : LI g a o H) (hc : cells + 6300 ≤ R.cells) (hsl : slots + 50100 ≤ R.slots)
    (kk : ∀ (H1 : Heap) (locs1 : List Loc) (ls1 : Array Slot), (∀ q ∈ locs1, gLo g ≤ q.base) → lv_has ls1 9 [(0, .ref b), (1, .ref a), (2, .ref o), (3, .ref (o + 10)), (4, .int (nI i))] → LI g a o H1 → W p l e R s m args below meth c H1 locs1 (cells + 6300) (slots + 50100) Q (F0 m 2951 ls1 [])) : W p l e R s m args below meth c H locs cells slots Q (F0 m 2540 ls []) := by
  have hx := X.1
  have hb := X.2.1
  have hKV := X.2.2.2.2.2.2.2.1.1
  have hlo := hB.1
  have hL120 := hB.2.2.2.2
  obtain ⟨⟨S, n, st, ln, hf, hs, hsk, hW⟩, f, hu⟩ := hI
  obtain ⟨hN, hn, hRO, hst, hs6, hln, hl6, hF, hG⟩ := hsk.mi
  refine lv_aload_n hx hb dL_law_2540 rfl (lv_at hl 1 rfl) ?_
  refine Gr.callV (ct_X1_coveredByTwo l g (FF o) S n st ln hf hs a) X hL hl vb_X1_coveredByTwo q1086 (hsk.recv hKV) rfl rfl (Nat.le_of_ble_eq_true rfl) dL_law_2541 ⟨by have := hR.1; omega, by have := hR.2; omega⟩ (by omega) (by omega) hsk (fun r H1 locs hL hp => ?_)
  obtain ⟨x, hxs, h0, hr, hE⟩ := OQ.ex hp
  have hX : SkX g (FF o) x.2.2 a H1 := by rw [show x.2.2 = S from by rw [hxs]; rfl]; exact (hsk.ext hE).x
  have hC : Chg (fun q => ¬ FF o q) H H1 := hE.chg
  have hu := hu.chg hC (fun y => y (FF_u o))
  have hW := hW.keepC hC (fun q h1 h2 y => y ⟨h1, by omega⟩)
  obtain ⟨v0, hv⟩ : ∃ v9, x.2.1 = some (.int v9) := by rw [hxs]; exact ⟨_, rfl⟩
  rw [hv] at hr
  subst hr
  refine lv_aload_n hx hb dL_law_2544 rfl (lv_at hl 2 rfl) ?_
  refine Gr.callV (ct_X5_coveredByTwo l g o n S hN hn) X hL hl vb_X5_coveredByTwo q2216 (hW.2.1.recv hKV rfl) rfl rfl (Nat.le_of_ble_eq_true rfl) dL_law_2545 ⟨by have := hR.1; omega, by have := hR.2; omega⟩ (by omega) (by omega) hW (fun r H locs hL hp => ?_)
  obtain ⟨S1, hAP, hW, hO⟩ := hp
  obtain ⟨hSc, ht, hr⟩ : AP S1 x r := by rw [hxs]; exact hAP
  have hX := (hX.off hO hKV.gE hlo).sc hSc
  have hu := hu.at (hO.2 _ (Or.inr (by omega)))
  rw [hv] at hr
  subst hr
  refine lv_icmp_eq (tgt := 2951) hx hb dL_law_2548 (by decide) (fun c_2548 => ?_) (fun c_2548 => ?_)
  ·
    exact W.widen (by omega) (by omega) (kk _ _ _ hL (lv_sub hl [0, 1, 2, 3, 4] rfl) (LI.mk hX hW hu))
  ·
    exact absurd rfl c_2548

set_option maxRecDepth 100000 in
set_option maxHeartbeats 4000000 in
theorem lc_45 (X : Cx p g s m args meth c cL_law 9 (yL nm) ret) (hl0 : l.stackTraces = false) (hB : LB g o b L xs s) (hR : LR R) (hi : i + 4 < L) (hL : ∀ q ∈ locs, gLo g ≤ q.base) (hl : lv_has ls 9 [(0, .ref b), (1, .ref a), (2, .ref o), (3, .ref (o + 10)), (4, .int (nI i))]) (hI : LI g a o H) (hc : cells + 6300 ≤ R.cells) (hsl : slots + 50100 ≤ R.slots)
    (kk : ∀ (H1 : Heap) (locs1 : List Loc) (ls1 : Array Slot), (∀ q ∈ locs1, gLo g ≤ q.base) → lv_has ls1 9 [(0, .ref b), (1, .ref a), (2, .ref o), (3, .ref (o + 10)), (4, .int (nI i))] → LI g a o H1 → W p l e R s m args below meth c H1 locs1 (cells + 6300) (slots + 50100) Q (F0 m 2951 ls1 [])) : W p l e R s m args below meth c H locs cells slots Q (F0 m 2553 ls []) := by
  have hx := X.1
  have hb := X.2.1
  have hKV := X.2.2.2.2.2.2.2.1.1
  have hlo := hB.1
  have hL120 := hB.2.2.2.2
  obtain ⟨⟨S, n, st, ln, hf, hs, hsk, hW⟩, f, hu⟩ := hI
  obtain ⟨hN, hn, hRO, hst, hs6, hln, hl6, hF, hG⟩ := hsk.mi
  refine lv_aload_n hx hb dL_law_2553 rfl (lv_at hl 1 rfl) ?_
  refine lv_aload_n hx hb dL_law_2554 rfl (lv_at hl 0 rfl) ?_
  refine lv_iload hx hb dL_law_2555 (lv_at hl 4 rfl) ?_
  refine lv_iconst (v := nI 1) hx hb dL_law_2557 (by decide) ?_
  refine n_iadd X dL_law_2558 ?_
  refine r_xld X hB hL (by omega) dL_law_2559 ?_
  refine lv_aload_n hx hb dL_law_2560 rfl (lv_at hl 3 rfl) ?_
  refine Gr.callW (ct_X0_takenAt l g (FF o) S n st ln hf hs a (xs (i + 1)) (o + 10) hl0 (FF_u o) (FF_lo hlo)) X hL hl sw_X0_takenAt q1775 rfl rfl (Nat.le_of_ble_eq_true rfl) dL_law_2561 ⟨by have := hR.1; omega, by have := hR.2; omega⟩ (by omega) (by omega) ⟨hsk, _, hu⟩ (fun r H locs hL hp => ?_)
  obtain ⟨x, hxs, hr, hx3, hnum, ⟨f, hu⟩, hX, hC⟩ := WP.ex hp
  have hW := hW.keepC hC (fun q h1 h2 y => y.elim (fun y => y ⟨h1, by omega⟩) (fun y => by have y : q = o + 10 := y; omega))
  obtain ⟨v0, hv⟩ : ∃ v9, x.2.1 = some (.int v9) := by rw [hxs]; unfold s_taken; (repeat' split) <;> exact ⟨_, rfl⟩
  have hq : x.1 = 0 → Al g (o + 10) 1 (fun _ => v0.toInt64) H := fun h => by obtain ⟨n9, e1, e2⟩ := hnum h; rw [hv] at e1; cases e1; exact e2
  subst hr
  refine lv_istore (lv' := [(5, .int _), (0, .ref _), (1, .ref _), (2, .ref _), (3, .ref _), (4, .int _)]) hx hb dL_law_2564 hl (by decide) rfl (fun ls hl => ?_)
  refine lv_aload_n hx hb dL_law_2566 rfl (lv_at hl 3 rfl) ?_
  refine lv_aload_n hx hb dL_law_2567 rfl (lv_at hl 1 rfl) ?_
  refine lv_iload hx hb dL_law_2568 (lv_at hl 5 rfl) ?_
  refine lv_iconst (v := nI 1) hx hb dL_law_2570 (by decide) ?_
  refine n_iadd X dL_law_2571 ?_
  refine r_xld X hB hL (by omega) dL_law_2572 ?_
  refine Gr.callV (ct_X5_takenAt l g o n S (xs (i + 1)) hN hn) X hL hl vb_X5_takenAt q2224 (hW.2.1.recv hKV rfl) rfl rfl (Nat.le_of_ble_eq_true rfl) dL_law_2573 ⟨by have := hR.1; omega, by have := hR.2; omega⟩ (by omega) (by omega) hW (fun r H locs hL hp => ?_)
  obtain ⟨S1, hAP, hW, hO⟩ := hp
  obtain ⟨hSc, ht, hr⟩ : AP S1 x r := by rw [hxs]; exact hAP
  have hX := (hX.off hO hKV.gE hlo).sc hSc
  have hu := hu.at (hO.2 _ (Or.inr (by omega)))
  have hq : x.1 = 0 → Al g (o + 10) 1 (fun _ => v0.toInt64) H := fun h => (hq h).at (hO.2 _ (Or.inr (by omega)))
  rw [hv] at hr
  subst hr
  refine lv_istore (lv' := [(6, .int _), (5, .int _), (0, .ref _), (1, .ref _), (2, .ref _), (3, .ref _), (4, .int _)]) hx hb dL_law_2576 hl (by decide) rfl (fun ls hl => ?_)
  refine lv_aload_n hx hb dL_law_2578 rfl (lv_at hl 4 rfl) ?_
  refine Gr.callV (ct_X5_thrown l g o S1) X hL hl vb_X5_thrown q1871 (hW.2.1.recv hKV rfl) rfl rfl (Nat.le_of_ble_eq_true rfl) dL_law_2579 ⟨by have := hR.1; omega, by have := hR.2; omega⟩ (by omega) (by omega) hW (fun r H9 locs hL hp => ?_)
  obtain ⟨rfl, e9⟩ := hp
  cases e9
  refine lv_iload hx hb dL_law_2582 (lv_at hl 1 rfl) ?_
  refine lv_icmp_eq (tgt := 2589) hx hb dL_law_2584 (by decide) (fun c_2584 => ?_) (fun c_2584 => ?_)
  ·
    refine lv_iload hx hb dL_law_2589 (lv_at hl 1 rfl) ?_
    refine n_ifne (tgt := 2606) X dL_law_2591 (by decide) (by omega) (fun c_2591 => ?_) (fun c_2591 => ?_)
    ·
      refine lv_goto (tgt := 2951) hx hb dL_law_2606 (by decide) ?_
      exact W.widen (by omega) (by omega) (kk _ _ _ hL (lv_sub hl [2, 3, 4, 5, 6] rfl) (LI.mk hX hW hu))
    ·
      have hu := hq c_2591
      refine lv_aload_n hx hb dL_law_2594 rfl (lv_at hl 5 rfl) ?_
      refine lv_iconst (v := nI 0) hx hb dL_law_2595 (by decide) ?_
      refine r_lld X hu 0 rfl (by decide) (by decide) dL_law_2596 ?_
      refine lv_iload hx hb dL_law_2597 (lv_at hl 0 rfl) ?_
      refine lv_i2l hx hb dL_law_2599 rfl ?_
      refine r_lcmp X dL_law_2600 ?_
      refine lv_if_eq (tgt := 2606) hx hb dL_law_2601 (by decide) (fun c_2601 => ?_) (fun c_2601 => ?_)
      ·
        refine lv_goto (tgt := 2951) hx hb dL_law_2606 (by decide) ?_
        exact W.widen (by omega) (by omega) (kk _ _ _ hL (lv_sub hl [2, 3, 4, 5, 6] rfl) (LI.mk hX hW hu))
      ·
        exact (c_2601 (lcI_0.mpr rfl)).elim
  ·
    exact absurd ht c_2584

set_option maxRecDepth 100000 in
set_option maxHeartbeats 4000000 in
theorem lc_46 (X : Cx p g s m args meth c cL_law 9 (yL nm) ret) (hl0 : l.stackTraces = false) (hB : LB g o b L xs s) (hR : LR R) (hi : i + 4 < L) (hL : ∀ q ∈ locs, gLo g ≤ q.base) (hl : lv_has ls 9 [(0, .ref b), (1, .ref a), (2, .ref o), (3, .ref (o + 10)), (4, .int (nI i))]) (hI : LI g a o H) (hc : cells + 6300 ≤ R.cells) (hsl : slots + 50100 ≤ R.slots)
    (kk : ∀ (H1 : Heap) (locs1 : List Loc) (ls1 : Array Slot), (∀ q ∈ locs1, gLo g ≤ q.base) → lv_has ls1 9 [(0, .ref b), (1, .ref a), (2, .ref o), (3, .ref (o + 10)), (4, .int (nI i))] → LI g a o H1 → W p l e R s m args below meth c H1 locs1 (cells + 6300) (slots + 50100) Q (F0 m 2951 ls1 [])) : W p l e R s m args below meth c H locs cells slots Q (F0 m 2609 ls []) := by
  have hx := X.1
  have hb := X.2.1
  have hKV := X.2.2.2.2.2.2.2.1.1
  have hlo := hB.1
  have hL120 := hB.2.2.2.2
  obtain ⟨⟨S, n, st, ln, hf, hs, hsk, hW⟩, f, hu⟩ := hI
  obtain ⟨hN, hn, hRO, hst, hs6, hln, hl6, hF, hG⟩ := hsk.mi
  refine lv_aload_n hx hb dL_law_2609 rfl (lv_at hl 1 rfl) ?_
  refine lv_aload_n hx hb dL_law_2610 rfl (lv_at hl 0 rfl) ?_
  refine lv_iload hx hb dL_law_2611 (lv_at hl 4 rfl) ?_
  refine lv_iconst (v := nI 1) hx hb dL_law_2613 (by decide) ?_
  refine n_iadd X dL_law_2614 ?_
  refine r_xld X hB hL (by omega) dL_law_2615 ?_
  refine lv_aload_n hx hb dL_law_2616 rfl (lv_at hl 3 rfl) ?_
  refine Gr.callW (ct_X0_scoreOf l g (FF o) S n st ln hf hs a (xs (i + 1)) (o + 10) hl0 (FF_u o) (FF_lo hlo)) X hL hl sw_X0_scoreOf q1782 rfl rfl (Nat.le_of_ble_eq_true rfl) dL_law_2617 ⟨by have := hR.1; omega, by have := hR.2; omega⟩ (by omega) (by omega) ⟨hsk, _, hu⟩ (fun r H locs hL hp => ?_)
  obtain ⟨x, hxs, hr, hx3, hnum, ⟨f, hu⟩, hX, hC⟩ := WP.ex hp
  have hW := hW.keepC hC (fun q h1 h2 y => y.elim (fun y => y ⟨h1, by omega⟩) (fun y => by have y : q = o + 10 := y; omega))
  obtain ⟨v0, hv⟩ : ∃ v9, x.2.1 = some (.int v9) := by rw [hxs]; unfold s_one; (repeat' split) <;> exact ⟨_, rfl⟩
  have hq : x.1 = 0 → Al g (o + 10) 1 (fun _ => v0.toInt64) H := fun h => by obtain ⟨n9, e1, e2⟩ := hnum h; rw [hv] at e1; cases e1; exact e2
  subst hr
  refine lv_istore (lv' := [(5, .int _), (0, .ref _), (1, .ref _), (2, .ref _), (3, .ref _), (4, .int _)]) hx hb dL_law_2620 hl (by decide) rfl (fun ls hl => ?_)
  refine lv_aload_n hx hb dL_law_2622 rfl (lv_at hl 3 rfl) ?_
  refine lv_aload_n hx hb dL_law_2623 rfl (lv_at hl 1 rfl) ?_
  refine lv_iload hx hb dL_law_2624 (lv_at hl 5 rfl) ?_
  refine lv_iconst (v := nI 1) hx hb dL_law_2626 (by decide) ?_
  refine n_iadd X dL_law_2627 ?_
  refine r_xld X hB hL (by omega) dL_law_2628 ?_
  refine Gr.callV (ct_X5_scoreOf l g o n S (xs (i + 1)) hN hn) X hL hl vb_X5_scoreOf q2228 (hW.2.1.recv hKV rfl) rfl rfl (Nat.le_of_ble_eq_true rfl) dL_law_2629 ⟨by have := hR.1; omega, by have := hR.2; omega⟩ (by omega) (by omega) hW (fun r H locs hL hp => ?_)
  obtain ⟨S1, hAP, hW, hO⟩ := hp
  obtain ⟨hSc, ht, hr⟩ : AP S1 x r := by rw [hxs]; exact hAP
  have hX := (hX.off hO hKV.gE hlo).sc hSc
  have hu := hu.at (hO.2 _ (Or.inr (by omega)))
  have hq : x.1 = 0 → Al g (o + 10) 1 (fun _ => v0.toInt64) H := fun h => (hq h).at (hO.2 _ (Or.inr (by omega)))
  rw [hv] at hr
  subst hr
  refine lv_istore (lv' := [(6, .int _), (5, .int _), (0, .ref _), (1, .ref _), (2, .ref _), (3, .ref _), (4, .int _)]) hx hb dL_law_2632 hl (by decide) rfl (fun ls hl => ?_)
  refine lv_aload_n hx hb dL_law_2634 rfl (lv_at hl 4 rfl) ?_
  refine Gr.callV (ct_X5_thrown l g o S1) X hL hl vb_X5_thrown q1871 (hW.2.1.recv hKV rfl) rfl rfl (Nat.le_of_ble_eq_true rfl) dL_law_2635 ⟨by have := hR.1; omega, by have := hR.2; omega⟩ (by omega) (by omega) hW (fun r H9 locs hL hp => ?_)
  obtain ⟨rfl, e9⟩ := hp
  cases e9
  refine lv_iload hx hb dL_law_2638 (lv_at hl 1 rfl) ?_
  refine lv_icmp_eq (tgt := 2645) hx hb dL_law_2640 (by decide) (fun c_2640 => ?_) (fun c_2640 => ?_)
  ·
    refine lv_iload hx hb dL_law_2645 (lv_at hl 1 rfl) ?_
    refine n_ifne (tgt := 2662) X dL_law_2647 (by decide) (by omega) (fun c_2647 => ?_) (fun c_2647 => ?_)
    ·
      refine lv_goto (tgt := 2951) hx hb dL_law_2662 (by decide) ?_
      exact W.widen (by omega) (by omega) (kk _ _ _ hL (lv_sub hl [2, 3, 4, 5, 6] rfl) (LI.mk hX hW hu))
    ·
      have hu := hq c_2647
      refine lv_aload_n hx hb dL_law_2650 rfl (lv_at hl 5 rfl) ?_
      refine lv_iconst (v := nI 0) hx hb dL_law_2651 (by decide) ?_
      refine r_lld X hu 0 rfl (by decide) (by decide) dL_law_2652 ?_
      refine lv_iload hx hb dL_law_2653 (lv_at hl 0 rfl) ?_
      refine lv_i2l hx hb dL_law_2655 rfl ?_
      refine r_lcmp X dL_law_2656 ?_
      refine lv_if_eq (tgt := 2662) hx hb dL_law_2657 (by decide) (fun c_2657 => ?_) (fun c_2657 => ?_)
      ·
        refine lv_goto (tgt := 2951) hx hb dL_law_2662 (by decide) ?_
        exact W.widen (by omega) (by omega) (kk _ _ _ hL (lv_sub hl [2, 3, 4, 5, 6] rfl) (LI.mk hX hW hu))
      ·
        exact (c_2657 (lcI_0.mpr rfl)).elim
  ·
    exact absurd ht c_2640

set_option maxRecDepth 100000 in
set_option maxHeartbeats 4000000 in
theorem lc_47 (X : Cx p g s m args meth c cL_law 9 (yL nm) ret) (hl0 : l.stackTraces = false) (hB : LB g o b L xs s) (hR : LR R) (hi : i + 4 < L) (hL : ∀ q ∈ locs, gLo g ≤ q.base) (hl : lv_has ls 9 [(0, .ref b), (1, .ref a), (2, .ref o), (3, .ref (o + 10)), (4, .int (nI i))]) (hI : LI g a o H) (hc : cells + 6300 ≤ R.cells) (hsl : slots + 50100 ≤ R.slots)
    (kk : ∀ (H1 : Heap) (locs1 : List Loc) (ls1 : Array Slot), (∀ q ∈ locs1, gLo g ≤ q.base) → lv_has ls1 9 [(0, .ref b), (1, .ref a), (2, .ref o), (3, .ref (o + 10)), (4, .int (nI i))] → LI g a o H1 → W p l e R s m args below meth c H1 locs1 (cells + 6300) (slots + 50100) Q (F0 m 2951 ls1 [])) : W p l e R s m args below meth c H locs cells slots Q (F0 m 2665 ls []) := by
  have hx := X.1
  have hb := X.2.1
  have hKV := X.2.2.2.2.2.2.2.1.1
  have hlo := hB.1
  have hL120 := hB.2.2.2.2
  obtain ⟨⟨S, n, st, ln, hf, hs, hsk, hW⟩, f, hu⟩ := hI
  obtain ⟨hN, hn, hRO, hst, hs6, hln, hl6, hF, hG⟩ := hsk.mi
  refine lv_aload_n hx hb dL_law_2665 rfl (lv_at hl 1 rfl) ?_
  refine lv_aload_n hx hb dL_law_2666 rfl (lv_at hl 0 rfl) ?_
  refine lv_iload hx hb dL_law_2667 (lv_at hl 4 rfl) ?_
  refine lv_iconst (v := nI 1) hx hb dL_law_2669 (by decide) ?_
  refine n_iadd X dL_law_2670 ?_
  refine r_xld X hB hL (by omega) dL_law_2671 ?_
  refine lv_aload_n hx hb dL_law_2672 rfl (lv_at hl 3 rfl) ?_
  refine Gr.callW (ct_X0_byScore l g (FF o) S n st ln hf hs a (xs (i + 1)) (o + 10) hl0 (FF_u o) (FF_lo hlo)) X hL hl sw_X0_byScore q1789 rfl rfl (Nat.le_of_ble_eq_true rfl) dL_law_2673 ⟨by have := hR.1; omega, by have := hR.2; omega⟩ (by omega) (by omega) ⟨hsk, _, hu⟩ (fun r H locs hL hp => ?_)
  obtain ⟨x, hxs, hr, hx3, hnum, ⟨f, hu⟩, hX, hC⟩ := WP.ex hp
  have hW := hW.keepC hC (fun q h1 h2 y => y.elim (fun y => y ⟨h1, by omega⟩) (fun y => by have y : q = o + 10 := y; omega))
  obtain ⟨v0, hv⟩ : ∃ v9, x.2.1 = some (.int v9) := by rw [hxs]; unfold s_fst; (repeat' split) <;> exact ⟨_, rfl⟩
  have hq : x.1 = 0 → Al g (o + 10) 1 (fun _ => v0.toInt64) H := fun h => by obtain ⟨n9, e1, e2⟩ := hnum h; rw [hv] at e1; cases e1; exact e2
  subst hr
  refine lv_istore (lv' := [(5, .int _), (0, .ref _), (1, .ref _), (2, .ref _), (3, .ref _), (4, .int _)]) hx hb dL_law_2676 hl (by decide) rfl (fun ls hl => ?_)
  refine lv_aload_n hx hb dL_law_2678 rfl (lv_at hl 3 rfl) ?_
  refine lv_aload_n hx hb dL_law_2679 rfl (lv_at hl 1 rfl) ?_
  refine lv_iload hx hb dL_law_2680 (lv_at hl 5 rfl) ?_
  refine lv_iconst (v := nI 1) hx hb dL_law_2682 (by decide) ?_
  refine n_iadd X dL_law_2683 ?_
  refine r_xld X hB hL (by omega) dL_law_2684 ?_
  refine Gr.callV (ct_X5_byScore l g o n S (xs (i + 1)) hN hn) X hL hl vb_X5_byScore q2236 (hW.2.1.recv hKV rfl) rfl rfl (Nat.le_of_ble_eq_true rfl) dL_law_2685 ⟨by have := hR.1; omega, by have := hR.2; omega⟩ (by omega) (by omega) hW (fun r H locs hL hp => ?_)
  obtain ⟨S1, hAP, hW, hO⟩ := hp
  obtain ⟨hSc, ht, hr⟩ : AP S1 x r := by rw [hxs]; exact hAP
  have hX := (hX.off hO hKV.gE hlo).sc hSc
  have hu := hu.at (hO.2 _ (Or.inr (by omega)))
  have hq : x.1 = 0 → Al g (o + 10) 1 (fun _ => v0.toInt64) H := fun h => (hq h).at (hO.2 _ (Or.inr (by omega)))
  rw [hv] at hr
  subst hr
  refine lv_istore (lv' := [(6, .int _), (5, .int _), (0, .ref _), (1, .ref _), (2, .ref _), (3, .ref _), (4, .int _)]) hx hb dL_law_2688 hl (by decide) rfl (fun ls hl => ?_)
  refine lv_aload_n hx hb dL_law_2690 rfl (lv_at hl 4 rfl) ?_
  refine Gr.callV (ct_X5_thrown l g o S1) X hL hl vb_X5_thrown q1871 (hW.2.1.recv hKV rfl) rfl rfl (Nat.le_of_ble_eq_true rfl) dL_law_2691 ⟨by have := hR.1; omega, by have := hR.2; omega⟩ (by omega) (by omega) hW (fun r H9 locs hL hp => ?_)
  obtain ⟨rfl, e9⟩ := hp
  cases e9
  refine lv_iload hx hb dL_law_2694 (lv_at hl 1 rfl) ?_
  refine lv_icmp_eq (tgt := 2701) hx hb dL_law_2696 (by decide) (fun c_2696 => ?_) (fun c_2696 => ?_)
  ·
    refine lv_iload hx hb dL_law_2701 (lv_at hl 1 rfl) ?_
    refine n_ifne (tgt := 2718) X dL_law_2703 (by decide) (by omega) (fun c_2703 => ?_) (fun c_2703 => ?_)
    ·
      refine lv_goto (tgt := 2951) hx hb dL_law_2718 (by decide) ?_
      exact W.widen (by omega) (by omega) (kk _ _ _ hL (lv_sub hl [2, 3, 4, 5, 6] rfl) (LI.mk hX hW hu))
    ·
      have hu := hq c_2703
      refine lv_aload_n hx hb dL_law_2706 rfl (lv_at hl 5 rfl) ?_
      refine lv_iconst (v := nI 0) hx hb dL_law_2707 (by decide) ?_
      refine r_lld X hu 0 rfl (by decide) (by decide) dL_law_2708 ?_
      refine lv_iload hx hb dL_law_2709 (lv_at hl 0 rfl) ?_
      refine lv_i2l hx hb dL_law_2711 rfl ?_
      refine r_lcmp X dL_law_2712 ?_
      refine lv_if_eq (tgt := 2718) hx hb dL_law_2713 (by decide) (fun c_2713 => ?_) (fun c_2713 => ?_)
      ·
        refine lv_goto (tgt := 2951) hx hb dL_law_2718 (by decide) ?_
        exact W.widen (by omega) (by omega) (kk _ _ _ hL (lv_sub hl [2, 3, 4, 5, 6] rfl) (LI.mk hX hW hu))
      ·
        exact (c_2713 (lcI_0.mpr rfl)).elim
  ·
    exact absurd ht c_2696

set_option maxRecDepth 100000 in
set_option maxHeartbeats 4000000 in
theorem lc_48 (X : Cx p g s m args meth c cL_law 9 (yL nm) ret) (hl0 : l.stackTraces = false) (hB : LB g o b L xs s) (hR : LR R) (hi : i + 4 < L) (hL : ∀ q ∈ locs, gLo g ≤ q.base) (hl : lv_has ls 9 [(0, .ref b), (1, .ref a), (2, .ref o), (3, .ref (o + 10)), (4, .int (nI i))]) (hI : LI g a o H) (hc : cells + 6300 ≤ R.cells) (hsl : slots + 50100 ≤ R.slots)
    (kk : ∀ (H1 : Heap) (locs1 : List Loc) (ls1 : Array Slot), (∀ q ∈ locs1, gLo g ≤ q.base) → lv_has ls1 9 [(0, .ref b), (1, .ref a), (2, .ref o), (3, .ref (o + 10)), (4, .int (nI i))] → LI g a o H1 → W p l e R s m args below meth c H1 locs1 (cells + 6300) (slots + 50100) Q (F0 m 2951 ls1 [])) : W p l e R s m args below meth c H locs cells slots Q (F0 m 2721 ls []) := by
  have hx := X.1
  have hb := X.2.1
  have hKV := X.2.2.2.2.2.2.2.1.1
  have hlo := hB.1
  have hL120 := hB.2.2.2.2
  obtain ⟨⟨S, n, st, ln, hf, hs, hsk, hW⟩, f, hu⟩ := hI
  obtain ⟨hN, hn, hRO, hst, hs6, hln, hl6, hF, hG⟩ := hsk.mi
  refine lv_aload_n hx hb dL_law_2721 rfl (lv_at hl 1 rfl) ?_
  refine lv_aload_n hx hb dL_law_2722 rfl (lv_at hl 0 rfl) ?_
  refine lv_iload hx hb dL_law_2723 (lv_at hl 4 rfl) ?_
  refine lv_iconst (v := nI 1) hx hb dL_law_2725 (by decide) ?_
  refine n_iadd X dL_law_2726 ?_
  refine r_xld X hB hL (by omega) dL_law_2727 ?_
  refine lv_aload_n hx hb dL_law_2728 rfl (lv_at hl 0 rfl) ?_
  refine lv_iload hx hb dL_law_2729 (lv_at hl 4 rfl) ?_
  refine lv_iconst (v := nI 2) hx hb dL_law_2731 (by decide) ?_
  refine n_iadd X dL_law_2732 ?_
  refine r_xld X hB hL (by omega) dL_law_2733 ?_
  refine lv_aload_n hx hb dL_law_2734 rfl (lv_at hl 3 rfl) ?_
  refine Gr.callW (ct_X0_reachByPairs l g (FF o) S n st ln hf hs a (xs (i + 1)) (xs (i + 2)) (o + 10) hl0 (FF_u o) (FF_lo hlo)) X hL hl sw_X0_reachByPairs q1796 rfl rfl (Nat.le_of_ble_eq_true rfl) dL_law_2735 ⟨by have := hR.1; omega, by have := hR.2; omega⟩ (by omega) (by omega) ⟨hsk, _, hu⟩ (fun r H locs hL hp => ?_)
  obtain ⟨x, hxs, hr, hx3, hnum, ⟨f, hu⟩, hX, hC⟩ := WP.ex hp
  have hW := hW.keepC hC (fun q h1 h2 y => y.elim (fun y => y ⟨h1, by omega⟩) (fun y => by have y : q = o + 10 := y; omega))
  obtain ⟨v0, hv⟩ : ∃ v9, x.2.1 = some (.int v9) := by rw [hxs]; unfold s_reach; (repeat' split) <;> exact ⟨_, rfl⟩
  have hq : x.1 = 0 → Al g (o + 10) 1 (fun _ => v0.toInt64) H := fun h => by obtain ⟨n9, e1, e2⟩ := hnum h; rw [hv] at e1; cases e1; exact e2
  subst hr
  refine lv_istore (lv' := [(5, .int _), (0, .ref _), (1, .ref _), (2, .ref _), (3, .ref _), (4, .int _)]) hx hb dL_law_2738 hl (by decide) rfl (fun ls hl => ?_)
  refine lv_aload_n hx hb dL_law_2740 rfl (lv_at hl 3 rfl) ?_
  refine lv_aload_n hx hb dL_law_2741 rfl (lv_at hl 1 rfl) ?_
  refine lv_iload hx hb dL_law_2742 (lv_at hl 5 rfl) ?_
  refine lv_iconst (v := nI 1) hx hb dL_law_2744 (by decide) ?_
  refine n_iadd X dL_law_2745 ?_
  refine r_xld X hB hL (by omega) dL_law_2746 ?_
  refine lv_aload_n hx hb dL_law_2747 rfl (lv_at hl 1 rfl) ?_
  refine lv_iload hx hb dL_law_2748 (lv_at hl 5 rfl) ?_
  refine lv_iconst (v := nI 2) hx hb dL_law_2750 (by decide) ?_
  refine n_iadd X dL_law_2751 ?_
  refine r_xld X hB hL (by omega) dL_law_2752 ?_
  refine Gr.callV (ct_X5_reachByPairs l g o n S (xs (i + 1)) (xs (i + 2)) hN hn) X hL hl vb_X5_reachByPairs q2244 (hW.2.1.recv hKV rfl) rfl rfl (Nat.le_of_ble_eq_true rfl) dL_law_2753 ⟨by have := hR.1; omega, by have := hR.2; omega⟩ (by omega) (by omega) hW (fun r H locs hL hp => ?_)
  obtain ⟨S1, hAP, hW, hO⟩ := hp
  obtain ⟨hSc, ht, hr⟩ : AP S1 x r := by rw [hxs]; exact hAP
  have hX := (hX.off hO hKV.gE hlo).sc hSc
  have hu := hu.at (hO.2 _ (Or.inr (by omega)))
  have hq : x.1 = 0 → Al g (o + 10) 1 (fun _ => v0.toInt64) H := fun h => (hq h).at (hO.2 _ (Or.inr (by omega)))
  rw [hv] at hr
  subst hr
  refine lv_istore (lv' := [(6, .int _), (5, .int _), (0, .ref _), (1, .ref _), (2, .ref _), (3, .ref _), (4, .int _)]) hx hb dL_law_2756 hl (by decide) rfl (fun ls hl => ?_)
  refine lv_aload_n hx hb dL_law_2758 rfl (lv_at hl 4 rfl) ?_
  refine Gr.callV (ct_X5_thrown l g o S1) X hL hl vb_X5_thrown q1871 (hW.2.1.recv hKV rfl) rfl rfl (Nat.le_of_ble_eq_true rfl) dL_law_2759 ⟨by have := hR.1; omega, by have := hR.2; omega⟩ (by omega) (by omega) hW (fun r H9 locs hL hp => ?_)
  obtain ⟨rfl, e9⟩ := hp
  cases e9
  refine lv_iload hx hb dL_law_2762 (lv_at hl 1 rfl) ?_
  refine lv_icmp_eq (tgt := 2769) hx hb dL_law_2764 (by decide) (fun c_2764 => ?_) (fun c_2764 => ?_)
  ·
    refine lv_iload hx hb dL_law_2769 (lv_at hl 1 rfl) ?_
    refine n_ifne (tgt := 2786) X dL_law_2771 (by decide) (by omega) (fun c_2771 => ?_) (fun c_2771 => ?_)
    ·
      refine lv_goto (tgt := 2951) hx hb dL_law_2786 (by decide) ?_
      exact W.widen (by omega) (by omega) (kk _ _ _ hL (lv_sub hl [2, 3, 4, 5, 6] rfl) (LI.mk hX hW hu))
    ·
      have hu := hq c_2771
      refine lv_aload_n hx hb dL_law_2774 rfl (lv_at hl 5 rfl) ?_
      refine lv_iconst (v := nI 0) hx hb dL_law_2775 (by decide) ?_
      refine r_lld X hu 0 rfl (by decide) (by decide) dL_law_2776 ?_
      refine lv_iload hx hb dL_law_2777 (lv_at hl 0 rfl) ?_
      refine lv_i2l hx hb dL_law_2779 rfl ?_
      refine r_lcmp X dL_law_2780 ?_
      refine lv_if_eq (tgt := 2786) hx hb dL_law_2781 (by decide) (fun c_2781 => ?_) (fun c_2781 => ?_)
      ·
        refine lv_goto (tgt := 2951) hx hb dL_law_2786 (by decide) ?_
        exact W.widen (by omega) (by omega) (kk _ _ _ hL (lv_sub hl [2, 3, 4, 5, 6] rfl) (LI.mk hX hW hu))
      ·
        exact (c_2781 (lcI_0.mpr rfl)).elim
  ·
    exact absurd ht c_2764

set_option maxRecDepth 100000 in
set_option maxHeartbeats 4000000 in
theorem lc_49 (X : Cx p g s m args meth c cL_law 9 (yL nm) ret) (hl0 : l.stackTraces = false) (hB : LB g o b L xs s) (hR : LR R) (hi : i + 4 < L) (hL : ∀ q ∈ locs, gLo g ≤ q.base) (hl : lv_has ls 9 [(0, .ref b), (1, .ref a), (2, .ref o), (3, .ref (o + 10)), (4, .int (nI i))]) (hI : LI g a o H) (hc : cells + 6300 ≤ R.cells) (hsl : slots + 50100 ≤ R.slots)
    (kk : ∀ (H1 : Heap) (locs1 : List Loc) (ls1 : Array Slot), (∀ q ∈ locs1, gLo g ≤ q.base) → lv_has ls1 9 [(0, .ref b), (1, .ref a), (2, .ref o), (3, .ref (o + 10)), (4, .int (nI i))] → LI g a o H1 → W p l e R s m args below meth c H1 locs1 (cells + 6300) (slots + 50100) Q (F0 m 2951 ls1 [])) : W p l e R s m args below meth c H locs cells slots Q (F0 m 2789 ls []) := by
  have hx := X.1
  have hb := X.2.1
  have hKV := X.2.2.2.2.2.2.2.1.1
  have hlo := hB.1
  have hL120 := hB.2.2.2.2
  obtain ⟨⟨S, n, st, ln, hf, hs, hsk, hW⟩, f, hu⟩ := hI
  obtain ⟨hN, hn, hRO, hst, hs6, hln, hl6, hF, hG⟩ := hsk.mi
  refine lv_aload_n hx hb dL_law_2789 rfl (lv_at hl 1 rfl) ?_
  refine lv_aload_n hx hb dL_law_2790 rfl (lv_at hl 0 rfl) ?_
  refine lv_iload hx hb dL_law_2791 (lv_at hl 4 rfl) ?_
  refine lv_iconst (v := nI 1) hx hb dL_law_2793 (by decide) ?_
  refine n_iadd X dL_law_2794 ?_
  refine r_xld X hB hL (by omega) dL_law_2795 ?_
  refine lv_aload_n hx hb dL_law_2796 rfl (lv_at hl 0 rfl) ?_
  refine lv_iload hx hb dL_law_2797 (lv_at hl 4 rfl) ?_
  refine lv_iconst (v := nI 2) hx hb dL_law_2799 (by decide) ?_
  refine n_iadd X dL_law_2800 ?_
  refine r_xld X hB hL (by omega) dL_law_2801 ?_
  refine lv_aload_n hx hb dL_law_2802 rfl (lv_at hl 3 rfl) ?_
  refine Gr.callW (ct_X0_reachBySteps l g (FF o) S n st ln hf hs a (xs (i + 1)) (xs (i + 2)) (o + 10) hl0 (FF_u o) (FF_lo hlo)) X hL hl sw_X0_reachBySteps q1806 rfl rfl (Nat.le_of_ble_eq_true rfl) dL_law_2803 ⟨by have := hR.1; omega, by have := hR.2; omega⟩ (by omega) (by omega) ⟨hsk, _, hu⟩ (fun r H locs hL hp => ?_)
  obtain ⟨x, hxs, hr, hx3, hnum, ⟨f, hu⟩, hX, hC⟩ := WP.ex hp
  have hW := hW.keepC hC (fun q h1 h2 y => y.elim (fun y => y ⟨h1, by omega⟩) (fun y => by have y : q = o + 10 := y; omega))
  obtain ⟨v0, hv⟩ : ∃ v9, x.2.1 = some (.int v9) := by rw [hxs]; unfold s_reach; (repeat' split) <;> exact ⟨_, rfl⟩
  have hq : x.1 = 0 → Al g (o + 10) 1 (fun _ => v0.toInt64) H := fun h => by obtain ⟨n9, e1, e2⟩ := hnum h; rw [hv] at e1; cases e1; exact e2
  subst hr
  refine lv_istore (lv' := [(5, .int _), (0, .ref _), (1, .ref _), (2, .ref _), (3, .ref _), (4, .int _)]) hx hb dL_law_2806 hl (by decide) rfl (fun ls hl => ?_)
  refine lv_aload_n hx hb dL_law_2808 rfl (lv_at hl 3 rfl) ?_
  refine lv_aload_n hx hb dL_law_2809 rfl (lv_at hl 1 rfl) ?_
  refine lv_iload hx hb dL_law_2810 (lv_at hl 5 rfl) ?_
  refine lv_iconst (v := nI 1) hx hb dL_law_2812 (by decide) ?_
  refine n_iadd X dL_law_2813 ?_
  refine r_xld X hB hL (by omega) dL_law_2814 ?_
  refine lv_aload_n hx hb dL_law_2815 rfl (lv_at hl 1 rfl) ?_
  refine lv_iload hx hb dL_law_2816 (lv_at hl 5 rfl) ?_
  refine lv_iconst (v := nI 2) hx hb dL_law_2818 (by decide) ?_
  refine n_iadd X dL_law_2819 ?_
  refine r_xld X hB hL (by omega) dL_law_2820 ?_
  refine Gr.callV (ct_X5_reachBySteps l g o n S (xs (i + 1)) (xs (i + 2)) hN hn) X hL hl vb_X5_reachBySteps q2252 (hW.2.1.recv hKV rfl) rfl rfl (Nat.le_of_ble_eq_true rfl) dL_law_2821 ⟨by have := hR.1; omega, by have := hR.2; omega⟩ (by omega) (by omega) hW (fun r H locs hL hp => ?_)
  obtain ⟨S1, hAP, hW, hO⟩ := hp
  obtain ⟨hSc, ht, hr⟩ : AP S1 x r := by rw [hxs]; exact hAP
  have hX := (hX.off hO hKV.gE hlo).sc hSc
  have hu := hu.at (hO.2 _ (Or.inr (by omega)))
  have hq : x.1 = 0 → Al g (o + 10) 1 (fun _ => v0.toInt64) H := fun h => (hq h).at (hO.2 _ (Or.inr (by omega)))
  rw [hv] at hr
  subst hr
  refine lv_istore (lv' := [(6, .int _), (5, .int _), (0, .ref _), (1, .ref _), (2, .ref _), (3, .ref _), (4, .int _)]) hx hb dL_law_2824 hl (by decide) rfl (fun ls hl => ?_)
  refine lv_aload_n hx hb dL_law_2826 rfl (lv_at hl 4 rfl) ?_
  refine Gr.callV (ct_X5_thrown l g o S1) X hL hl vb_X5_thrown q1871 (hW.2.1.recv hKV rfl) rfl rfl (Nat.le_of_ble_eq_true rfl) dL_law_2827 ⟨by have := hR.1; omega, by have := hR.2; omega⟩ (by omega) (by omega) hW (fun r H9 locs hL hp => ?_)
  obtain ⟨rfl, e9⟩ := hp
  cases e9
  refine lv_iload hx hb dL_law_2830 (lv_at hl 1 rfl) ?_
  refine lv_icmp_eq (tgt := 2837) hx hb dL_law_2832 (by decide) (fun c_2832 => ?_) (fun c_2832 => ?_)
  ·
    refine lv_iload hx hb dL_law_2837 (lv_at hl 1 rfl) ?_
    refine n_ifne (tgt := 2854) X dL_law_2839 (by decide) (by omega) (fun c_2839 => ?_) (fun c_2839 => ?_)
    ·
      refine lv_goto (tgt := 2951) hx hb dL_law_2854 (by decide) ?_
      exact W.widen (by omega) (by omega) (kk _ _ _ hL (lv_sub hl [2, 3, 4, 5, 6] rfl) (LI.mk hX hW hu))
    ·
      have hu := hq c_2839
      refine lv_aload_n hx hb dL_law_2842 rfl (lv_at hl 5 rfl) ?_
      refine lv_iconst (v := nI 0) hx hb dL_law_2843 (by decide) ?_
      refine r_lld X hu 0 rfl (by decide) (by decide) dL_law_2844 ?_
      refine lv_iload hx hb dL_law_2845 (lv_at hl 0 rfl) ?_
      refine lv_i2l hx hb dL_law_2847 rfl ?_
      refine r_lcmp X dL_law_2848 ?_
      refine lv_if_eq (tgt := 2854) hx hb dL_law_2849 (by decide) (fun c_2849 => ?_) (fun c_2849 => ?_)
      ·
        refine lv_goto (tgt := 2951) hx hb dL_law_2854 (by decide) ?_
        exact W.widen (by omega) (by omega) (kk _ _ _ hL (lv_sub hl [2, 3, 4, 5, 6] rfl) (LI.mk hX hW hu))
      ·
        exact (c_2849 (lcI_0.mpr rfl)).elim
  ·
    exact absurd ht c_2832

set_option maxRecDepth 100000 in
set_option maxHeartbeats 4000000 in
theorem lc_50 (X : Cx p g s m args meth c cL_law 9 (yL nm) ret) (hl0 : l.stackTraces = false) (hB : LB g o b L xs s) (hR : LR R) (hi : i + 4 < L) (hL : ∀ q ∈ locs, gLo g ≤ q.base) (hl : lv_has ls 9 [(0, .ref b), (1, .ref a), (2, .ref o), (3, .ref (o + 10)), (4, .int (nI i))]) (hI : LI g a o H) (hc : cells + 6300 ≤ R.cells) (hsl : slots + 50100 ≤ R.slots)
    (kk : ∀ (H1 : Heap) (locs1 : List Loc) (ls1 : Array Slot), (∀ q ∈ locs1, gLo g ≤ q.base) → lv_has ls1 9 [(0, .ref b), (1, .ref a), (2, .ref o), (3, .ref (o + 10)), (4, .int (nI i))] → LI g a o H1 → W p l e R s m args below meth c H1 locs1 (cells + 6300) (slots + 50100) Q (F0 m 2951 ls1 [])) : W p l e R s m args below meth c H locs cells slots Q (F0 m 2857 ls []) := by
  have hx := X.1
  have hb := X.2.1
  have hKV := X.2.2.2.2.2.2.2.1.1
  have hlo := hB.1
  have hL120 := hB.2.2.2.2
  obtain ⟨⟨S, n, st, ln, hf, hs, hsk, hW⟩, f, hu⟩ := hI
  obtain ⟨hN, hn, hRO, hst, hs6, hln, hl6, hF, hG⟩ := hsk.mi
  refine lv_aload_n hx hb dL_law_2857 rfl (lv_at hl 1 rfl) ?_
  refine Gr.callV (ct_X1_added l g (FF o) S n st ln hf hs a) X hL hl vb_X1_added q1103 (hsk.recv hKV) rfl rfl (Nat.le_of_ble_eq_true rfl) dL_law_2858 ⟨by have := hR.1; omega, by have := hR.2; omega⟩ (by omega) (by omega) hsk (fun r H1 locs hL hp => ?_)
  obtain ⟨x, hxs, h0, hr, hE⟩ := OQ.ex hp
  have hX : SkX g (FF o) x.2.2 a H1 := by rw [show x.2.2 = S from by rw [hxs]; rfl]; exact (hsk.ext hE).x
  have hC : Chg (fun q => ¬ FF o q) H H1 := hE.chg
  have hu := hu.chg hC (fun y => y (FF_u o))
  have hW := hW.keepC hC (fun q h1 h2 y => y ⟨h1, by omega⟩)
  obtain ⟨v0, hv⟩ : ∃ v9, x.2.1 = some (.int v9) := by rw [hxs]; exact ⟨_, rfl⟩
  rw [hv] at hr
  subst hr
  refine lv_aload_n hx hb dL_law_2861 rfl (lv_at hl 2 rfl) ?_
  refine Gr.callV (ct_X5_added l g o S) X hL hl vb_X5_added q2257 (hW.2.1.recv hKV rfl) rfl rfl (Nat.le_of_ble_eq_true rfl) dL_law_2862 ⟨by have := hR.1; omega, by have := hR.2; omega⟩ (by omega) (by omega) hW (fun r H locs hL hp => ?_)
  obtain ⟨S1, hAP, hW, hO⟩ := hp
  obtain ⟨hSc, ht, hr⟩ : AP S1 x r := by rw [hxs]; exact hAP
  have hX := (hX.off hO hKV.gE hlo).sc hSc
  have hu := hu.at (hO.2 _ (Or.inr (by omega)))
  rw [hv] at hr
  subst hr
  refine lv_icmp_eq (tgt := 2951) hx hb dL_law_2865 (by decide) (fun c_2865 => ?_) (fun c_2865 => ?_)
  ·
    exact W.widen (by omega) (by omega) (kk _ _ _ hL (lv_sub hl [0, 1, 2, 3, 4] rfl) (LI.mk hX hW hu))
  ·
    exact absurd rfl c_2865

set_option maxRecDepth 100000 in
set_option maxHeartbeats 4000000 in
theorem lc_51 (X : Cx p g s m args meth c cL_law 9 (yL nm) ret) (hl0 : l.stackTraces = false) (hB : LB g o b L xs s) (hR : LR R) (hi : i + 4 < L) (hL : ∀ q ∈ locs, gLo g ≤ q.base) (hl : lv_has ls 9 [(0, .ref b), (1, .ref a), (2, .ref o), (3, .ref (o + 10)), (4, .int (nI i))]) (hI : LI g a o H) (hc : cells + 6300 ≤ R.cells) (hsl : slots + 50100 ≤ R.slots)
    (kk : ∀ (H1 : Heap) (locs1 : List Loc) (ls1 : Array Slot), (∀ q ∈ locs1, gLo g ≤ q.base) → lv_has ls1 9 [(0, .ref b), (1, .ref a), (2, .ref o), (3, .ref (o + 10)), (4, .int (nI i))] → LI g a o H1 → W p l e R s m args below meth c H1 locs1 (cells + 6300) (slots + 50100) Q (F0 m 2951 ls1 [])) : W p l e R s m args below meth c H locs cells slots Q (F0 m 2870 ls []) := by
  have hx := X.1
  have hb := X.2.1
  have hKV := X.2.2.2.2.2.2.2.1.1
  have hlo := hB.1
  have hL120 := hB.2.2.2.2
  obtain ⟨⟨S, n, st, ln, hf, hs, hsk, hW⟩, f, hu⟩ := hI
  obtain ⟨hN, hn, hRO, hst, hs6, hln, hl6, hF, hG⟩ := hsk.mi
  refine lv_aload_n hx hb dL_law_2870 rfl (lv_at hl 1 rfl) ?_
  refine Gr.callV (ct_X1_removed l g (FF o) S n st ln hf hs a) X hL hl vb_X1_removed q1107 (hsk.recv hKV) rfl rfl (Nat.le_of_ble_eq_true rfl) dL_law_2871 ⟨by have := hR.1; omega, by have := hR.2; omega⟩ (by omega) (by omega) hsk (fun r H1 locs hL hp => ?_)
  obtain ⟨x, hxs, h0, hr, hE⟩ := OQ.ex hp
  have hX : SkX g (FF o) x.2.2 a H1 := by rw [show x.2.2 = S from by rw [hxs]; rfl]; exact (hsk.ext hE).x
  have hC : Chg (fun q => ¬ FF o q) H H1 := hE.chg
  have hu := hu.chg hC (fun y => y (FF_u o))
  have hW := hW.keepC hC (fun q h1 h2 y => y ⟨h1, by omega⟩)
  obtain ⟨v0, hv⟩ : ∃ v9, x.2.1 = some (.int v9) := by rw [hxs]; exact ⟨_, rfl⟩
  rw [hv] at hr
  subst hr
  refine lv_aload_n hx hb dL_law_2874 rfl (lv_at hl 2 rfl) ?_
  refine Gr.callV (ct_X5_removed l g o S) X hL hl vb_X5_removed q2261 (hW.2.1.recv hKV rfl) rfl rfl (Nat.le_of_ble_eq_true rfl) dL_law_2875 ⟨by have := hR.1; omega, by have := hR.2; omega⟩ (by omega) (by omega) hW (fun r H locs hL hp => ?_)
  obtain ⟨S1, hAP, hW, hO⟩ := hp
  obtain ⟨hSc, ht, hr⟩ : AP S1 x r := by rw [hxs]; exact hAP
  have hX := (hX.off hO hKV.gE hlo).sc hSc
  have hu := hu.at (hO.2 _ (Or.inr (by omega)))
  rw [hv] at hr
  subst hr
  refine lv_icmp_eq (tgt := 2951) hx hb dL_law_2878 (by decide) (fun c_2878 => ?_) (fun c_2878 => ?_)
  ·
    exact W.widen (by omega) (by omega) (kk _ _ _ hL (lv_sub hl [0, 1, 2, 3, 4] rfl) (LI.mk hX hW hu))
  ·
    exact absurd rfl c_2878

set_option maxRecDepth 100000 in
set_option maxHeartbeats 4000000 in
theorem lc_52 (X : Cx p g s m args meth c cL_law 9 (yL nm) ret) (hl0 : l.stackTraces = false) (hB : LB g o b L xs s) (hR : LR R) (hi : i + 4 < L) (hL : ∀ q ∈ locs, gLo g ≤ q.base) (hl : lv_has ls 9 [(0, .ref b), (1, .ref a), (2, .ref o), (3, .ref (o + 10)), (4, .int (nI i))]) (hI : LI g a o H) (hc : cells + 6300 ≤ R.cells) (hsl : slots + 50100 ≤ R.slots)
    (kk : ∀ (H1 : Heap) (locs1 : List Loc) (ls1 : Array Slot), (∀ q ∈ locs1, gLo g ≤ q.base) → lv_has ls1 9 [(0, .ref b), (1, .ref a), (2, .ref o), (3, .ref (o + 10)), (4, .int (nI i))] → LI g a o H1 → W p l e R s m args below meth c H1 locs1 (cells + 6300) (slots + 50100) Q (F0 m 2951 ls1 [])) : W p l e R s m args below meth c H locs cells slots Q (F0 m 2883 ls []) := by
  have hx := X.1
  have hb := X.2.1
  have hKV := X.2.2.2.2.2.2.2.1.1
  have hlo := hB.1
  have hL120 := hB.2.2.2.2
  obtain ⟨⟨S, n, st, ln, hf, hs, hsk, hW⟩, f, hu⟩ := hI
  obtain ⟨hN, hn, hRO, hst, hs6, hln, hl6, hF, hG⟩ := hsk.mi
  refine lv_aload_n hx hb dL_law_2883 rfl (lv_at hl 1 rfl) ?_
  refine Gr.callV (ct_X1_beatings l g (FF o) S n st ln hf hs a) X hL hl vb_X1_beatings q1111 (hsk.recv hKV) rfl rfl (Nat.le_of_ble_eq_true rfl) dL_law_2884 ⟨by have := hR.1; omega, by have := hR.2; omega⟩ (by omega) (by omega) hsk (fun r H1 locs hL hp => ?_)
  obtain ⟨x, hxs, h0, hr, hE⟩ := OQ.ex hp
  have hX : SkX g (FF o) x.2.2 a H1 := by rw [show x.2.2 = S from by rw [hxs]; rfl]; exact (hsk.ext hE).x
  have hC : Chg (fun q => ¬ FF o q) H H1 := hE.chg
  have hu := hu.chg hC (fun y => y (FF_u o))
  have hW := hW.keepC hC (fun q h1 h2 y => y ⟨h1, by omega⟩)
  obtain ⟨v0, hv⟩ : ∃ v9, x.2.1 = some (.int v9) := by rw [hxs]; exact ⟨_, rfl⟩
  rw [hv] at hr
  subst hr
  refine lv_aload_n hx hb dL_law_2887 rfl (lv_at hl 2 rfl) ?_
  refine Gr.callV (ct_X5_beatings l g o n S hN hn) X hL hl vb_X5_beatings q2265 (hW.2.1.recv hKV rfl) rfl rfl (Nat.le_of_ble_eq_true rfl) dL_law_2888 ⟨by have := hR.1; omega, by have := hR.2; omega⟩ (by omega) (by omega) hW (fun r H locs hL hp => ?_)
  obtain ⟨S1, hAP, hW, hO⟩ := hp
  obtain ⟨hSc, ht, hr⟩ : AP S1 x r := by rw [hxs]; exact hAP
  have hX := (hX.off hO hKV.gE hlo).sc hSc
  have hu := hu.at (hO.2 _ (Or.inr (by omega)))
  rw [hv] at hr
  subst hr
  refine lv_icmp_eq (tgt := 2951) hx hb dL_law_2891 (by decide) (fun c_2891 => ?_) (fun c_2891 => ?_)
  ·
    exact W.widen (by omega) (by omega) (kk _ _ _ hL (lv_sub hl [0, 1, 2, 3, 4] rfl) (LI.mk hX hW hu))
  ·
    exact absurd rfl c_2891

set_option maxRecDepth 100000 in
set_option maxHeartbeats 4000000 in
theorem lc_53 (X : Cx p g s m args meth c cL_law 9 (yL nm) ret) (hl0 : l.stackTraces = false) (hB : LB g o b L xs s) (hR : LR R) (hi : i + 4 < L) (hL : ∀ q ∈ locs, gLo g ≤ q.base) (hl : lv_has ls 9 [(0, .ref b), (1, .ref a), (2, .ref o), (3, .ref (o + 10)), (4, .int (nI i))]) (hI : LI g a o H) (hc : cells + 6300 ≤ R.cells) (hsl : slots + 50100 ≤ R.slots)
    (kk : ∀ (H1 : Heap) (locs1 : List Loc) (ls1 : Array Slot), (∀ q ∈ locs1, gLo g ≤ q.base) → lv_has ls1 9 [(0, .ref b), (1, .ref a), (2, .ref o), (3, .ref (o + 10)), (4, .int (nI i))] → LI g a o H1 → W p l e R s m args below meth c H1 locs1 (cells + 6300) (slots + 50100) Q (F0 m 2951 ls1 [])) : W p l e R s m args below meth c H locs cells slots Q (F0 m 2896 ls []) := by
  have hx := X.1
  have hb := X.2.1
  have hKV := X.2.2.2.2.2.2.2.1.1
  have hlo := hB.1
  have hL120 := hB.2.2.2.2
  obtain ⟨⟨S, n, st, ln, hf, hs, hsk, hW⟩, f, hu⟩ := hI
  obtain ⟨hN, hn, hRO, hst, hs6, hln, hl6, hF, hG⟩ := hsk.mi
  refine lv_aload_n hx hb dL_law_2896 rfl (lv_at hl 1 rfl) ?_
  refine Gr.callV (ct_X1_toldShare l g (FF o) S n st ln hf hs a) X hL hl vb_X1_toldShare q1131 (hsk.recv hKV) rfl rfl (Nat.le_of_ble_eq_true rfl) dL_law_2897 ⟨by have := hR.1; omega, by have := hR.2; omega⟩ (by omega) (by omega) hsk (fun r H1 locs hL hp => ?_)
  obtain ⟨x, hxs, h0, hr, hE⟩ := OQ.ex hp
  have hX : SkX g (FF o) x.2.2 a H1 := by rw [show x.2.2 = S from by rw [hxs]; rfl]; exact (hsk.ext hE).x
  have hC : Chg (fun q => ¬ FF o q) H H1 := hE.chg
  have hu := hu.chg hC (fun y => y (FF_u o))
  have hW := hW.keepC hC (fun q h1 h2 y => y ⟨h1, by omega⟩)
  obtain ⟨v0, hv⟩ : ∃ v9, x.2.1 = some (.double v9) := by rw [hxs]; exact ⟨_, rfl⟩
  rw [hv] at hr
  subst hr
  refine lv_dstore (lv' := [(5, .double _), (0, .ref _), (1, .ref _), (2, .ref _), (3, .ref _), (4, .int _)]) hx hb dL_law_2900 hl (by decide) rfl (fun ls hl => ?_)
  refine lv_aload_n hx hb dL_law_2902 rfl (lv_at hl 3 rfl) ?_
  refine Gr.callV (ct_X5_toldShare l g o n S hN hn) X hL hl vb_X5_toldShare q2273 (hW.2.1.recv hKV rfl) rfl rfl (Nat.le_of_ble_eq_true rfl) dL_law_2903 ⟨by have := hR.1; omega, by have := hR.2; omega⟩ (by omega) (by omega) hW (fun r H locs hL hp => ?_)
  obtain ⟨S1, hAP, hW, hO⟩ := hp
  obtain ⟨hSc, ht, hr⟩ : AP S1 x r := by rw [hxs]; exact hAP
  have hX := (hX.off hO hKV.gE hlo).sc hSc
  have hu := hu.at (hO.2 _ (Or.inr (by omega)))
  rw [hv] at hr
  subst hr
  refine lv_dstore (lv' := [(7, .double _), (5, .double _), (0, .ref _), (1, .ref _), (2, .ref _), (3, .ref _), (4, .int _)]) hx hb dL_law_2906 hl (by decide) rfl (fun ls hl => ?_)
  refine lv_dload hx hb dL_law_2908 (lv_at hl 1 rfl) ?_
  refine lv_dload hx hb dL_law_2910 (lv_at hl 0 rfl) ?_
  refine lv_dcmp hx hb dL_law_2912 ?_
  refine lv_if_eq (tgt := 2934) hx hb dL_law_2913 (by decide) (fun c_2913 => ?_) (fun c_2913 => ?_)
  ·
    refine lv_goto (tgt := 2951) hx hb dL_law_2934 (by decide) ?_
    exact W.widen (by omega) (by omega) (kk _ _ _ hL (lv_sub hl [2, 3, 4, 5, 6] rfl) (LI.mk hX hW hu))
  ·
    refine lv_dload hx hb dL_law_2916 (lv_at hl 1 rfl) ?_
    refine lv_dload hx hb dL_law_2918 (lv_at hl 1 rfl) ?_
    refine lv_dcmp hx hb dL_law_2920 ?_
    refine lv_if_eq (tgt := 2932) hx hb dL_law_2921 (by decide) (fun c_2921 => ?_) (fun c_2921 => ?_)
    ·
      exact absurd c_2921 c_2913
    ·
      refine lv_dload hx hb dL_law_2924 (lv_at hl 0 rfl) ?_
      refine lv_dload hx hb dL_law_2926 (lv_at hl 0 rfl) ?_
      refine lv_dcmp hx hb dL_law_2928 ?_
      refine lv_if_ne (tgt := 2934) hx hb dL_law_2929 (by decide) (fun c_2929 => ?_) (fun c_2929 => ?_)
      ·
        refine lv_goto (tgt := 2951) hx hb dL_law_2934 (by decide) ?_
        exact W.widen (by omega) (by omega) (kk _ _ _ hL (lv_sub hl [2, 3, 4, 5, 6] rfl) (LI.mk hX hW hu))
      ·
        exact absurd (by first | exact c_2929 | exact Classical.byContradiction c_2929) c_2913

set_option maxRecDepth 100000 in
set_option maxHeartbeats 4000000 in
theorem lc_54 (X : Cx p g s m args meth c cL_law 9 (yL nm) ret) (hl0 : l.stackTraces = false) (hB : LB g o b L xs s) (hR : LR R) (hi : i + 4 < L) (hL : ∀ q ∈ locs, gLo g ≤ q.base) (hl : lv_has ls 9 [(0, .ref b), (1, .ref a), (2, .ref o), (3, .ref (o + 10)), (4, .int (nI i))]) (hI : LI g a o H) (hc : cells + 6300 ≤ R.cells) (hsl : slots + 50100 ≤ R.slots)
    (kk : ∀ (H1 : Heap) (locs1 : List Loc) (ls1 : Array Slot), (∀ q ∈ locs1, gLo g ≤ q.base) → lv_has ls1 9 [(0, .ref b), (1, .ref a), (2, .ref o), (3, .ref (o + 10)), (4, .int (nI i))] → LI g a o H1 → W p l e R s m args below meth c H1 locs1 (cells + 6300) (slots + 50100) Q (F0 m 2951 ls1 [])) : W p l e R s m args below meth c H locs cells slots Q (F0 m 2937 ls []) := by
  have hx := X.1
  have hb := X.2.1
  have hKV := X.2.2.2.2.2.2.2.1.1
  have hlo := hB.1
  have hL120 := hB.2.2.2.2
  obtain ⟨⟨S, n, st, ln, hf, hs, hsk, hW⟩, f, hu⟩ := hI
  obtain ⟨hN, hn, hRO, hst, hs6, hln, hl6, hF, hG⟩ := hsk.mi
  refine lv_aload_n hx hb dL_law_2937 rfl (lv_at hl 1 rfl) ?_
  refine Gr.callV (ct_X1_digest l g (FF o) S n st ln hf hs a) X hL hl vb_X1_digest q1139 (hsk.recv hKV) rfl rfl (Nat.le_of_ble_eq_true rfl) dL_law_2938 ⟨by have := hR.1; omega, by have := hR.2; omega⟩ (by omega) (by omega) hsk (fun r H1 locs hL hp => ?_)
  obtain ⟨x, hxs, h0, hr, hX, hC⟩ := OpP.ex hp
  have hu := hu.chg hC (fun y => y (FF_u o))
  have hW := hW.keepC hC (fun q h1 h2 y => y ⟨h1, by omega⟩)
  obtain ⟨v0, hv⟩ : ∃ v9, x.2.1 = some (.long v9) := by rw [hxs]; exact ⟨_, rfl⟩
  rw [hv] at hr
  subst hr
  refine lv_aload_n hx hb dL_law_2941 rfl (lv_at hl 2 rfl) ?_
  refine Gr.callV (ct_X5_digest l g o n st ln S hf hs hN hn hRO hst hs6 hln hl6 hF hG) X hL hl vb_X5_digest q2277 (hW.2.1.recv hKV rfl) rfl rfl (Nat.le_of_ble_eq_true rfl) dL_law_2942 ⟨by have := hR.1; omega, by have := hR.2; omega⟩ (by omega) (by omega) hW (fun r H locs hL hp => ?_)
  obtain ⟨S1, hAP, hW, hO⟩ := hp
  obtain ⟨hSc, ht, hr⟩ : AP S1 x r := by rw [hxs]; exact hAP
  have hX := (hX.off hO hKV.gE hlo).sc hSc
  have hu := hu.at (hO.2 _ (Or.inr (by omega)))
  rw [hv] at hr
  subst hr
  refine r_lcmp X dL_law_2945 ?_
  refine lv_if_eq (tgt := 2951) hx hb dL_law_2946 (by decide) (fun c_2946 => ?_) (fun c_2946 => ?_)
  ·
    exact W.widen (by omega) (by omega) (kk _ _ _ hL (lv_sub hl [0, 1, 2, 3, 4] rfl) (LI.mk hX hW hu))
  ·
    exact (c_2946 (lcI_0.mpr rfl)).elim

end LAWCASES