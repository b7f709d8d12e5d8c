/-! THE LAW's cases: printed by gen/lawg.py -/
set_option maxRecDepth 100000
def lf_0 (fu : Nat) (X : BC) (N : BC) (T : BC) (Yo : Option BC) (L : List Nat) (kd : Nat → Nat) (nu : Nat → Int32) (aa : Nat → Int32) (LR : List Nat) (so : Nat → Nat) (rn : Nat → Nat) (ri : Nat → Nat → Int32) (rl : Nat → Nat → Int64) (M : BC) (Ko : Option BC) (To : Option BC) (x1 : Int32) (x2 : Int32) (x3 : Int32) (post : lwPT) : Prop :=
 f_X0_row X LR so rn ri rl x1 x2 x3 (fun (r1 : Int32) (X2 : BC) (LR3 : List Nat) (so4 : Nat → Nat) (rn5 : Nat → Nat) (ri6 : Nat → Nat → Int32) (rl7 : Nat → Nat → Int64) =>
 q_b2 (f_X3_row fu M x1 x2 x3) fun (r10 : Int32) (M11 : BC) =>
 q_ck (decide (r1 = r10)) (post X2 N T Yo L kd nu aa LR3 so4 rn5 ri6 rl7 M11 Ko To))
set_option maxHeartbeats 4000000 in
set_option maxRecDepth 100000 in
theorem lc_0 {p : Program} {l : Launch} {e : Env} {s : State} {m : MethodId} {below : List Frame} {meth : Method} {c : Code} {H : Heap} {locs : List Loc} {cells slots b len n : Nat} {Q : State → Prop} {xs : Nat → Int32} {adX adT adM adN : Nat → Nat} {tY tK tQ : Option ((Nat → Nat) × BC)} {ls : Array Slot} {D : va_G} {g : Nat → ClassId} {A : Nat → Prop} {X N T : BC} {L : List Nat} {kd : Nat → Nat} {nu aa : Nat → Int32} {LR : List Nat} {so rn : Nat → Nat} {ri : Nat → Nat → Int32} {rl : Nat → Nat → Int64} {M : BC} {fu : Nat} {post : lwPT} (C : lwC p l s m b c A ls adX adM len n xs) (hcs : cells + 10000 ≤ 1200384 ∧ slots + 80000 ≤ 5497258) (hW : bW D g A s H locs (lwB g adX adN adT tY adM tK tQ X N T L kd nu aa LR so rn ri rl M)) (hf : lf_0 fu X N T (tY.map Prod.snd) L kd nu aa LR so rn ri rl M (tK.map Prod.snd) (tQ.map Prod.snd) (xs (n + 1)) (xs (n + 2)) (xs (n + 3)) post) (kk : lwK p l e s m b below meth c D g A adX adT adM ls Q cells slots post) : W p l e room_1 s m #[.ref b] below meth c H locs cells slots Q (F0 m 276 ls []) := by
  have C0 := C
  obtain ⟨hx, hb, hml, hown, hts, hst, -, -, -, -, -, hl⟩ := C0
  rw [lf_0] at hf
  have hW : bW D g A s H locs [xW g adX (adN 0) (adT 0) (o_a tY) X, vW g adN N, vW g adT T, oV g tY, gW L kd nu aa, pW g LR so rn ri rl, mW g adM (o_a tK) (o_a tQ) M, oM g tK, oM g tQ] := hW
  refine lv_aload_n hx hb dL_law_276 rfl (lv_at hl 1 rfl) ?_
  refine lw_arg C hW 1 (K := 1) rfl (by decide) dL_law_277 dL_law_278 dL_law_279 dL_law_280 dL_law_281 ?_
  refine lw_arg C hW 2 (K := 2) rfl (by decide) dL_law_282 dL_law_283 dL_law_284 dL_law_285 dL_law_286 ?_
  refine lw_arg C hW 3 (K := 3) rfl (by decide) dL_law_287 dL_law_288 dL_law_289 dL_law_290 dL_law_291 ?_
  have hp8 : List.Perm (α := va_W) [xW g adX (adN 0) (adT 0) (o_a tY) X, vW g adN N, vW g adT T, oV g tY, gW L kd nu aa, pW g LR so rn ri rl, mW g adM (o_a tK) (o_a tQ) M, oM g tK, oM g tQ] ([xW g adX (adN 0) (adT 0) (o_a tY) X, pW g LR so rn ri rl] ++ [vW g adN N, vW g adT T, oV g tY, gW L kd nu aa, mW g adM (o_a tK) (o_a tQ) M, oM g tK, oM g tQ]) := b_perm [0, 5] [1, 2, 3, 4, 6, 7, 8] 9 rfl rfl rfl rfl
  refine b_callX (vx_runVX (As := [.int (xs (n + 1)), .int (xs (n + 2)), .int (xs (n + 3))]) (rest := []) ⟨hx, hb, hml, hown, hts⟩ (m_X0_row l hst D g H.size adX (o_a tY) adN adT X LR so rn ri rl (xs (n + 1)) (xs (n + 2)) (xs (n + 3)) _ hf) (vx_cwVW 3 hts (lw_VW q249 q250 q251 q76 q252) rfl rfl rfl (by decide +kernel) ⟨Nat.le_of_ble_eq_true rfl, Nat.le_of_ble_eq_true rfl⟩) (b_preV (pp := 0) (q := 0) hW hp8 rfl xW_0 rfl) rfl rfl hl.1 rfl (lv_room (Nat.le_of_ble_eq_true rfl)) dL_law_292 ⟨(show cells + 3 ≤ 1200384 from by (omega)), (show slots + 54 ≤ 5497258 from by (omega))⟩) hW hp8 (fun E q ce u hok H locs hW hcell hcv hcl => hok.elim) (fun u9 hf H locs hW => ?_)
  refine W.cs (cells' := (cells + 3)) (slots' := (slots + 54)) rfl rfl ?_
  try dsimp only at hf hW
  obtain ⟨r1, X2, LR3, so4, rn5, ri6, rl7⟩ := u9; try dsimp only at hf hW ⊢
  have hW : bW D g A s H locs [xW g adX (adN 0) (adT 0) (o_a tY) X2, pW g LR3 so4 rn5 ri6 rl7, vW g adN N, vW g adT T, oV g tY, gW L kd nu aa, mW g adM (o_a tK) (o_a tQ) M, oM g tK, oM g tQ] := hW
  refine lv_aload_n hx hb dL_law_295 rfl (lv_at hl 2 rfl) ?_
  refine lw_arg C hW 1 (K := 1) rfl (by decide) dL_law_296 dL_law_297 dL_law_298 dL_law_299 dL_law_300 ?_
  refine lw_arg C hW 2 (K := 2) rfl (by decide) dL_law_301 dL_law_302 dL_law_303 dL_law_304 dL_law_305 ?_
  refine lw_arg C hW 3 (K := 3) rfl (by decide) dL_law_306 dL_law_307 dL_law_308 dL_law_309 dL_law_310 ?_
  obtain ⟨r10, M11, hc12, hf⟩ := q_b2s hf
  have hp13 : List.Perm (α := va_W) [xW g adX (adN 0) (adT 0) (o_a tY) X2, pW g LR3 so4 rn5 ri6 rl7, vW g adN N, vW g adT T, oV g tY, gW L kd nu aa, mW g adM (o_a tK) (o_a tQ) M, oM g tK, oM g tQ] ([mW g adM (o_a tK) (o_a tQ) M] ++ [xW g adX (adN 0) (adT 0) (o_a tY) X2, pW g LR3 so4 rn5 ri6 rl7, vW g adN N, vW g adT T, oV g tY, gW L kd nu aa, oM g tK, oM g tQ]) := b_perm [6] [0, 1, 2, 3, 4, 5, 7, 8] 9 rfl rfl rfl rfl
  refine b_call0 ⟨rfl, rfl⟩ (va_runV (As := [.int (xs (n + 1)), .int (xs (n + 2)), .int (xs (n + 3))]) (rest := [.int r1]) ⟨hx, hb, hml, hown, hts⟩ (m_X3_row l D g H.size adM (o_a tK) (o_a tQ) fu M (xs (n + 1)) (xs (n + 2)) (xs (n + 3)) r10 M11 hc12) (cwV 3 hts (lw_V q1562 q1563 q1564 q79 q1565) rfl rfl rfl (by decide +kernel) ⟨Nat.le_of_ble_eq_true rfl, Nat.le_of_ble_eq_true rfl⟩) (b_preV (pp := 6) (q := 0) hW hp13 rfl mW_0 rfl) rfl rfl hl.1 rfl (lv_room (Nat.le_of_ble_eq_true rfl)) dL_law_311 ⟨(show (cells + 3) + 0 ≤ 1200384 from by (omega)), (show (slots + 54) + 0 ≤ 5497258 from by (omega))⟩) hW hp13 (fun _ _ H locs hW => ?_)
  have hW : bW D g A s H locs [mW g adM (o_a tK) (o_a tQ) M11, xW g adX (adN 0) (adT 0) (o_a tY) X2, pW g LR3 so4 rn5 ri6 rl7, vW g adN N, vW g adT T, oV g tY, gW L kd nu aa, oM g tK, oM g tQ] := hW
  obtain ⟨he14, hf⟩ := q_cs hf; have he14 := of_decide_eq_true he14
  refine lv_icmp_eq (tgt := 1948) hx hb dL_law_314 (by decide) (fun _ => ?_) (fun hne => absurd he14 hne)
  exact kk adN tY tK tQ X2 N T L kd nu aa LR3 so4 rn5 ri6 rl7 M11 _ _ _ _ hf (b_perms (Bs' := [xW g adX (adN 0) (adT 0) (o_a tY) X2, vW g adN N, vW g adT T, oV g tY, gW L kd nu aa, pW g LR3 so4 rn5 ri6 rl7, mW g adM (o_a tK) (o_a tQ) M11, oM g tK, oM g tQ]) hW (b_ord [1, 3, 4, 5, 6, 2, 0, 7, 8] 9 rfl rfl rfl)) (by (omega)) (by (omega))
def lf_1 (X : BC) (N : BC) (T : BC) (Yo : Option BC) (L : List Nat) (kd : Nat → Nat) (nu : Nat → Int32) (aa : Nat → Int32) (LR : List Nat) (so : Nat → Nat) (rn : Nat → Nat) (ri : Nat → Nat → Int32) (rl : Nat → Nat → Int64) (M : BC) (Ko : Option BC) (To : Option BC) (x1 : Int32) (x2 : Int32) (x3 : Int32) (x4 : Int32) (post : lwPT) : Prop :=
 f_X0_set X L kd nu aa LR so rn ri rl x1 x2 (((x3.toInt64) <<< (Int32.toInt64 32 &&& 63)) ||| ((x4.toInt64) &&& 4294967295)) (fun (r1 : Int32) (X2 : BC) (LR3 : List Nat) (so4 : Nat → Nat) (rn5 : Nat → Nat) (ri6 : Nat → Nat → Int32) (rl7 : Nat → Nat → Int64) =>
 q_b2 (f_X3_set M x1 x2 (((x3.toInt64) <<< (Int32.toInt64 32 &&& 63)) ||| ((x4.toInt64) &&& 4294967295))) fun (r10 : Int32) (M11 : BC) =>
 q_ck (decide (r1 = r10)) (post X2 N T Yo L kd nu aa LR3 so4 rn5 ri6 rl7 M11 Ko To))
set_option maxHeartbeats 4000000 in
set_option maxRecDepth 100000 in
theorem lc_1 {p : Program} {l : Launch} {e : Env} {s : State} {m : MethodId} {below : List Frame} {meth : Method} {c : Code} {H : Heap} {locs : List Loc} {cells slots b len n : Nat} {Q : State → Prop} {xs : Nat → Int32} {adX adT adM adN : Nat → Nat} {tY tK tQ : Option ((Nat → Nat) × BC)} {ls : Array Slot} {D : va_G} {g : Nat → ClassId} {A : Nat → Prop} {X N T : BC} {L : List Nat} {kd : Nat → Nat} {nu aa : Nat → Int32} {LR : List Nat} {so rn : Nat → Nat} {ri : Nat → Nat → Int32} {rl : Nat → Nat → Int64} {M : BC} {fu : Nat} {post : lwPT} (C : lwC p l s m b c A ls adX adM len n xs) (hcs : cells + 10000 ≤ 1200384 ∧ slots + 80000 ≤ 5497258) (hW : bW D g A s H locs (lwB g adX adN adT tY adM tK tQ X N T L kd nu aa LR so rn ri rl M)) (hf : lf_1 X N T (tY.map Prod.snd) L kd nu aa LR so rn ri rl M (tK.map Prod.snd) (tQ.map Prod.snd) (xs (n + 1)) (xs (n + 2)) (xs (n + 3)) (xs (n + 4)) post) (kk : lwK p l e s m b below meth c D g A adX adT adM ls Q cells slots post) : W p l e room_1 s m #[.ref b] below meth c H locs cells slots Q (F0 m 319 ls []) := by
  have C0 := C
  obtain ⟨hx, hb, hml, hown, hts, hst, -, -, -, -, -, hl⟩ := C0
  rw [lf_1] at hf
  have hW : bW D g A s H locs [xW g adX (adN 0) (adT 0) (o_a tY) X, vW g adN N, vW g adT T, oV g tY, gW L kd nu aa, pW g LR so rn ri rl, mW g adM (o_a tK) (o_a tQ) M, oM g tK, oM g tQ] := hW
  refine lv_aload_n hx hb dL_law_319 rfl (lv_at hl 1 rfl) ?_
  refine lw_arg C hW 1 (K := 1) rfl (by decide) dL_law_320 dL_law_321 dL_law_322 dL_law_323 dL_law_324 ?_
  refine lw_arg C hW 2 (K := 2) rfl (by decide) dL_law_325 dL_law_326 dL_law_327 dL_law_328 dL_law_329 ?_
  refine lw_arg C hW 3 (K := 3) rfl (by decide) dL_law_330 dL_law_331 dL_law_332 dL_law_333 dL_law_334 ?_
  refine lv_i2l hx hb dL_law_335 rfl ?_
  refine lv_bipush (v := 32) hx hb dL_law_336 (by decide) ?_
  refine lv_lshl hx hb dL_law_338 (v := ((xs (n + 3)).toInt64) <<< (Int32.toInt64 32 &&& 63)) rfl ?_
  refine lw_arg C hW 4 (K := 4) rfl (by decide) dL_law_339 dL_law_340 dL_law_341 dL_law_342 dL_law_343 ?_
  refine lv_i2l hx hb dL_law_344 rfl ?_
  refine lv_ldc2 (v := 4294967295) hx hb hown (hts _ q2028) dL_law_345 ?_
  refine lv_land hx hb dL_law_348 ?_
  refine lv_lor hx hb dL_law_349 ?_
  have hp8 : List.Perm (α := va_W) [xW g adX (adN 0) (adT 0) (o_a tY) X, vW g adN N, vW g adT T, oV g tY, gW L kd nu aa, pW g LR so rn ri rl, mW g adM (o_a tK) (o_a tQ) M, oM g tK, oM g tQ] ([xW g adX (adN 0) (adT 0) (o_a tY) X, gW L kd nu aa, pW g LR so rn ri rl] ++ [vW g adN N, vW g adT T, oV g tY, mW g adM (o_a tK) (o_a tQ) M, oM g tK, oM g tQ]) := b_perm [0, 4, 5] [1, 2, 3, 6, 7, 8] 9 rfl rfl rfl rfl
  refine b_callX (vx_runVX (As := [.int (xs (n + 1)), .int (xs (n + 2)), .long ((((xs (n + 3)).toInt64) <<< (Int32.toInt64 32 &&& 63)) ||| (((xs (n + 4)).toInt64) &&& 4294967295))]) (rest := []) ⟨hx, hb, hml, hown, hts⟩ (m_X0_set l hst D g H.size adX (o_a tY) adN adT X L kd nu aa LR so rn ri rl (xs (n + 1)) (xs (n + 2)) ((((xs (n + 3)).toInt64) <<< (Int32.toInt64 32 &&& 63)) ||| (((xs (n + 4)).toInt64) &&& 4294967295)) _ hf) (vx_cwVW 3 hts (lw_VW q357 q358 q359 q76 q360) rfl rfl rfl (by decide +kernel) ⟨Nat.le_of_ble_eq_true rfl, Nat.le_of_ble_eq_true rfl⟩) (b_preV (pp := 0) (q := 0) hW hp8 rfl xW_0 rfl) rfl rfl hl.1 rfl (lv_room (Nat.le_of_ble_eq_true rfl)) dL_law_350 ⟨(show cells + 4 ≤ 1200384 from by (omega)), (show slots + 229 ≤ 5497258 from by (omega))⟩) hW hp8 (fun E q ce u hok H locs hW hcell hcv hcl => hok.elim) (fun u9 hf H locs hW => ?_)
  refine W.cs (cells' := (cells + 4)) (slots' := (slots + 229)) rfl rfl ?_
  try dsimp only at hf hW
  obtain ⟨r1, X2, LR3, so4, rn5, ri6, rl7⟩ := u9; try dsimp only at hf hW ⊢
  have hW : bW D g A s H locs [xW g adX (adN 0) (adT 0) (o_a tY) X2, gW L kd nu aa, pW g LR3 so4 rn5 ri6 rl7, vW g adN N, vW g adT T, oV g tY, mW g adM (o_a tK) (o_a tQ) M, oM g tK, oM g tQ] := hW
  refine lv_aload_n hx hb dL_law_353 rfl (lv_at hl 2 rfl) ?_
  refine lw_arg C hW 1 (K := 1) rfl (by decide) dL_law_354 dL_law_355 dL_law_356 dL_law_357 dL_law_358 ?_
  refine lw_arg C hW 2 (K := 2) rfl (by decide) dL_law_359 dL_law_360 dL_law_361 dL_law_362 dL_law_363 ?_
  refine lw_arg C hW 3 (K := 3) rfl (by decide) dL_law_364 dL_law_365 dL_law_366 dL_law_367 dL_law_368 ?_
  refine lv_i2l hx hb dL_law_369 rfl ?_
  refine lv_bipush (v := 32) hx hb dL_law_370 (by decide) ?_
  refine lv_lshl hx hb dL_law_372 (v := ((xs (n + 3)).toInt64) <<< (Int32.toInt64 32 &&& 63)) rfl ?_
  refine lw_arg C hW 4 (K := 4) rfl (by decide) dL_law_373 dL_law_374 dL_law_375 dL_law_376 dL_law_377 ?_
  refine lv_i2l hx hb dL_law_378 rfl ?_
  refine lv_ldc2 (v := 4294967295) hx hb hown (hts _ q2028) dL_law_379 ?_
  refine lv_land hx hb dL_law_382 ?_
  refine lv_lor hx hb dL_law_383 ?_
  obtain ⟨r10, M11, hc12, hf⟩ := q_b2s hf
  have hp13 : List.Perm (α := va_W) [xW g adX (adN 0) (adT 0) (o_a tY) X2, gW L kd nu aa, pW g LR3 so4 rn5 ri6 rl7, vW g adN N, vW g adT T, oV g tY, mW g adM (o_a tK) (o_a tQ) M, oM g tK, oM g tQ] ([mW g adM (o_a tK) (o_a tQ) M] ++ [xW g adX (adN 0) (adT 0) (o_a tY) X2, gW L kd nu aa, pW g LR3 so4 rn5 ri6 rl7, vW g adN N, vW g adT T, oV g tY, oM g tK, oM g tQ]) := b_perm [6] [0, 1, 2, 3, 4, 5, 7, 8] 9 rfl rfl rfl rfl
  refine b_call0 ⟨rfl, rfl⟩ (va_runV (As := [.int (xs (n + 1)), .int (xs (n + 2)), .long ((((xs (n + 3)).toInt64) <<< (Int32.toInt64 32 &&& 63)) ||| (((xs (n + 4)).toInt64) &&& 4294967295))]) (rest := [.int r1]) ⟨hx, hb, hml, hown, hts⟩ (m_X3_set l D g H.size adM (o_a tK) (o_a tQ) M (xs (n + 1)) (xs (n + 2)) ((((xs (n + 3)).toInt64) <<< (Int32.toInt64 32 &&& 63)) ||| (((xs (n + 4)).toInt64) &&& 4294967295)) r10 M11 hc12) (cwV 3 hts (lw_V q1576 q1577 q1578 q79 q1579) rfl rfl rfl (by decide +kernel) ⟨Nat.le_of_ble_eq_true rfl, Nat.le_of_ble_eq_true rfl⟩) (b_preV (pp := 6) (q := 0) hW hp13 rfl mW_0 rfl) rfl rfl hl.1 rfl (lv_room (Nat.le_of_ble_eq_true rfl)) dL_law_384 ⟨(show (cells + 4) + 0 ≤ 1200384 from by (omega)), (show (slots + 229) + 0 ≤ 5497258 from by (omega))⟩) hW hp13 (fun _ _ H locs hW => ?_)
  have hW : bW D g A s H locs [mW g adM (o_a tK) (o_a tQ) M11, xW g adX (adN 0) (adT 0) (o_a tY) X2, gW L kd nu aa, pW g LR3 so4 rn5 ri6 rl7, vW g adN N, vW g adT T, oV g tY, oM g tK, oM g tQ] := hW
  obtain ⟨he14, hf⟩ := q_cs hf; have he14 := of_decide_eq_true he14
  refine lv_icmp_eq (tgt := 1948) hx hb dL_law_387 (by decide) (fun _ => ?_) (fun hne => absurd he14 hne)
  exact kk adN tY tK tQ X2 N T L kd nu aa LR3 so4 rn5 ri6 rl7 M11 _ _ _ _ hf (b_perms (Bs' := [xW g adX (adN 0) (adT 0) (o_a tY) X2, vW g adN N, vW g adT T, oV g tY, gW L kd nu aa, pW g LR3 so4 rn5 ri6 rl7, mW g adM (o_a tK) (o_a tQ) M11, oM g tK, oM g tQ]) hW (b_ord [1, 4, 5, 6, 2, 3, 0, 7, 8] 9 rfl rfl rfl)) (by (omega)) (by (omega))
def lf_2 (fu : Nat) (X : BC) (N : BC) (T : BC) (Yo : Option BC) (L : List Nat) (kd : Nat → Nat) (nu : Nat → Int32) (aa : Nat → Int32) (LR : List Nat) (so : Nat → Nat) (rn : Nat → Nat) (ri : Nat → Nat → Int32) (rl : Nat → Nat → Int64) (M : BC) (Ko : Option BC) (To : Option BC) (x1 : Int32) (x2 : Int32) (x3 : Int32) (x4 : Int32) (x5 : Int32) (post : lwPT) : Prop :=
 f_X0_copy X L kd nu aa LR so rn ri rl x1 x2 x3 x4 x5 (fun (r1 : Int32) (X2 : BC) (LR3 : List Nat) (so4 : Nat → Nat) (rn5 : Nat → Nat) (ri6 : Nat → Nat → Int32) (rl7 : Nat → Nat → Int64) =>
 q_b2 (f_X3_copy fu M x1 x2 x3 x4 x5) fun (r10 : Int32) (M11 : BC) =>
 q_ck (decide (r1 = r10)) (post X2 N T Yo L kd nu aa LR3 so4 rn5 ri6 rl7 M11 Ko To))
set_option maxHeartbeats 4000000 in
set_option maxRecDepth 100000 in
theorem lc_2 {p : Program} {l : Launch} {e : Env} {s : State} {m : MethodId} {below : List Frame} {meth : Method} {c : Code} {H : Heap} {locs : List Loc} {cells slots b len n : Nat} {Q : State → Prop} {xs : Nat → Int32} {adX adT adM adN : Nat → Nat} {tY tK tQ : Option ((Nat → Nat) × BC)} {ls : Array Slot} {D : va_G} {g : Nat → ClassId} {A : Nat → Prop} {X N T : BC} {L : List Nat} {kd : Nat → Nat} {nu aa : Nat → Int32} {LR : List Nat} {so rn : Nat → Nat} {ri : Nat → Nat → Int32} {rl : Nat → Nat → Int64} {M : BC} {fu : Nat} {post : lwPT} (C : lwC p l s m b c A ls adX adM len n xs) (hcs : cells + 10000 ≤ 1200384 ∧ slots + 80000 ≤ 5497258) (hW : bW D g A s H locs (lwB g adX adN adT tY adM tK tQ X N T L kd nu aa LR so rn ri rl M)) (hf : lf_2 fu X N T (tY.map Prod.snd) L kd nu aa LR so rn ri rl M (tK.map Prod.snd) (tQ.map Prod.snd) (xs (n + 1)) (xs (n + 2)) (xs (n + 3)) (xs (n + 4)) (xs (n + 5)) post) (kk : lwK p l e s m b below meth c D g A adX adT adM ls Q cells slots post) : W p l e room_1 s m #[.ref b] below meth c H locs cells slots Q (F0 m 392 ls []) := by
  have C0 := C
  obtain ⟨hx, hb, hml, hown, hts, hst, -, -, -, -, -, hl⟩ := C0
  rw [lf_2] at hf
  have hW : bW D g A s H locs [xW g adX (adN 0) (adT 0) (o_a tY) X, vW g adN N, vW g adT T, oV g tY, gW L kd nu aa, pW g LR so rn ri rl, mW g adM (o_a tK) (o_a tQ) M, oM g tK, oM g tQ] := hW
  refine lv_aload_n hx hb dL_law_392 rfl (lv_at hl 1 rfl) ?_
  refine lw_arg C hW 1 (K := 1) rfl (by decide) dL_law_393 dL_law_394 dL_law_395 dL_law_396 dL_law_397 ?_
  refine lw_arg C hW 2 (K := 2) rfl (by decide) dL_law_398 dL_law_399 dL_law_400 dL_law_401 dL_law_402 ?_
  refine lw_arg C hW 3 (K := 3) rfl (by decide) dL_law_403 dL_law_404 dL_law_405 dL_law_406 dL_law_407 ?_
  refine lw_arg C hW 4 (K := 4) rfl (by decide) dL_law_408 dL_law_409 dL_law_410 dL_law_411 dL_law_412 ?_
  refine lw_arg C hW 5 (K := 5) rfl (by decide) dL_law_413 dL_law_414 dL_law_415 dL_law_416 dL_law_417 ?_
  have hp8 : List.Perm (α := va_W) [xW g adX (adN 0) (adT 0) (o_a tY) X, vW g adN N, vW g adT T, oV g tY, gW L kd nu aa, pW g LR so rn ri rl, mW g adM (o_a tK) (o_a tQ) M, oM g tK, oM g tQ] ([xW g adX (adN 0) (adT 0) (o_a tY) X, gW L kd nu aa, pW g LR so rn ri rl] ++ [vW g adN N, vW g adT T, oV g tY, mW g adM (o_a tK) (o_a tQ) M, oM g tK, oM g tQ]) := b_perm [0, 4, 5] [1, 2, 3, 6, 7, 8] 9 rfl rfl rfl rfl
  refine b_callX (vx_runVX (As := [.int (xs (n + 1)), .int (xs (n + 2)), .int (xs (n + 3)), .int (xs (n + 4)), .int (xs (n + 5))]) (rest := []) ⟨hx, hb, hml, hown, hts⟩ (m_X0_copy l hst D g H.size adX (o_a tY) adN adT X L kd nu aa LR so rn ri rl (xs (n + 1)) (xs (n + 2)) (xs (n + 3)) (xs (n + 4)) (xs (n + 5)) _ hf) (vx_cwVW 5 hts (lw_VW q423 q424 q425 q76 q426) rfl rfl rfl (by decide +kernel) ⟨Nat.le_of_ble_eq_true rfl, Nat.le_of_ble_eq_true rfl⟩) (b_preV (pp := 0) (q := 0) hW hp8 rfl xW_0 rfl) rfl rfl hl.1 rfl (lv_room (Nat.le_of_ble_eq_true rfl)) dL_law_418 ⟨(show cells + 3 ≤ 1200384 from by (omega)), (show slots + 350 ≤ 5497258 from by (omega))⟩) hW hp8 (fun E q ce u hok H locs hW hcell hcv hcl => hok.elim) (fun u9 hf H locs hW => ?_)
  refine W.cs (cells' := (cells + 3)) (slots' := (slots + 350)) rfl rfl ?_
  try dsimp only at hf hW
  obtain ⟨r1, X2, LR3, so4, rn5, ri6, rl7⟩ := u9; try dsimp only at hf hW ⊢
  have hW : bW D g A s H locs [xW g adX (adN 0) (adT 0) (o_a tY) X2, gW L kd nu aa, pW g LR3 so4 rn5 ri6 rl7, vW g adN N, vW g adT T, oV g tY, mW g adM (o_a tK) (o_a tQ) M, oM g tK, oM g tQ] := hW
  refine lv_aload_n hx hb dL_law_421 rfl (lv_at hl 2 rfl) ?_
  refine lw_arg C hW 1 (K := 1) rfl (by decide) dL_law_422 dL_law_423 dL_law_424 dL_law_425 dL_law_426 ?_
  refine lw_arg C hW 2 (K := 2) rfl (by decide) dL_law_427 dL_law_428 dL_law_429 dL_law_430 dL_law_431 ?_
  refine lw_arg C hW 3 (K := 3) rfl (by decide) dL_law_432 dL_law_433 dL_law_434 dL_law_435 dL_law_436 ?_
  refine lw_arg C hW 4 (K := 4) rfl (by decide) dL_law_437 dL_law_438 dL_law_439 dL_law_440 dL_law_441 ?_
  refine lw_arg C hW 5 (K := 5) rfl (by decide) dL_law_442 dL_law_443 dL_law_444 dL_law_445 dL_law_446 ?_
  obtain ⟨r10, M11, hc12, hf⟩ := q_b2s hf
  have hp13 : List.Perm (α := va_W) [xW g adX (adN 0) (adT 0) (o_a tY) X2, gW L kd nu aa, pW g LR3 so4 rn5 ri6 rl7, vW g adN N, vW g adT T, oV g tY, mW g adM (o_a tK) (o_a tQ) M, oM g tK, oM g tQ] ([mW g adM (o_a tK) (o_a tQ) M] ++ [xW g adX (adN 0) (adT 0) (o_a tY) X2, gW L kd nu aa, pW g LR3 so4 rn5 ri6 rl7, vW g adN N, vW g adT T, oV g tY, oM g tK, oM g tQ]) := b_perm [6] [0, 1, 2, 3, 4, 5, 7, 8] 9 rfl rfl rfl rfl
  refine b_call0 ⟨rfl, rfl⟩ (va_runV (As := [.int (xs (n + 1)), .int (xs (n + 2)), .int (xs (n + 3)), .int (xs (n + 4)), .int (xs (n + 5))]) (rest := [.int r1]) ⟨hx, hb, hml, hown, hts⟩ (m_X3_copy l D g H.size adM (o_a tK) (o_a tQ) fu M (xs (n + 1)) (xs (n + 2)) (xs (n + 3)) (xs (n + 4)) (xs (n + 5)) r10 M11 hc12) (cwV 5 hts (lw_V q1587 q1588 q1589 q79 q1590) rfl rfl rfl (by decide +kernel) ⟨Nat.le_of_ble_eq_true rfl, Nat.le_of_ble_eq_true rfl⟩) (b_preV (pp := 6) (q := 0) hW hp13 rfl mW_0 rfl) rfl rfl hl.1 rfl (lv_room (Nat.le_of_ble_eq_true rfl)) dL_law_447 ⟨(show (cells + 3) + 0 ≤ 1200384 from by (omega)), (show (slots + 350) + 0 ≤ 5497258 from by (omega))⟩) hW hp13 (fun _ _ H locs hW => ?_)
  have hW : bW D g A s H locs [mW g adM (o_a tK) (o_a tQ) M11, xW g adX (adN 0) (adT 0) (o_a tY) X2, gW L kd nu aa, pW g LR3 so4 rn5 ri6 rl7, vW g adN N, vW g adT T, oV g tY, oM g tK, oM g tQ] := hW
  obtain ⟨he14, hf⟩ := q_cs hf; have he14 := of_decide_eq_true he14
  refine lv_icmp_eq (tgt := 1948) hx hb dL_law_450 (by decide) (fun _ => ?_) (fun hne => absurd he14 hne)
  exact kk adN tY tK tQ X2 N T L kd nu aa LR3 so4 rn5 ri6 rl7 M11 _ _ _ _ hf (b_perms (Bs' := [xW g adX (adN 0) (adT 0) (o_a tY) X2, vW g adN N, vW g adT T, oV g tY, gW L kd nu aa, pW g LR3 so4 rn5 ri6 rl7, mW g adM (o_a tK) (o_a tQ) M11, oM g tK, oM g tQ]) hW (b_ord [1, 4, 5, 6, 2, 3, 0, 7, 8] 9 rfl rfl rfl)) (by (omega)) (by (omega))
def lf_3 (X : BC) (N : BC) (T : BC) (Yo : Option BC) (L : List Nat) (kd : Nat → Nat) (nu : Nat → Int32) (aa : Nat → Int32) (LR : List Nat) (so : Nat → Nat) (rn : Nat → Nat) (ri : Nat → Nat → Int32) (rl : Nat → Nat → Int64) (M : BC) (Ko : Option BC) (To : Option BC) (x1 : Int32) (x2 : Int32) (post : lwPT) : Prop :=
 f_X0_element X L kd nu aa LR so rn ri rl x1 x2 (fun (r1 : Int64) =>
 q_b1 (f_X3_element M x1 x2) fun (r4 : Int64) =>
 q_ck (decide (r1 = r4)) (post X N T Yo L kd nu aa LR so rn ri rl M Ko To))
set_option maxHeartbeats 4000000 in
set_option maxRecDepth 100000 in
theorem lc_3 {p : Program} {l : Launch} {e : Env} {s : State} {m : MethodId} {below : List Frame} {meth : Method} {c : Code} {H : Heap} {locs : List Loc} {cells slots b len n : Nat} {Q : State → Prop} {xs : Nat → Int32} {adX adT adM adN : Nat → Nat} {tY tK tQ : Option ((Nat → Nat) × BC)} {ls : Array Slot} {D : va_G} {g : Nat → ClassId} {A : Nat → Prop} {X N T : BC} {L : List Nat} {kd : Nat → Nat} {nu aa : Nat → Int32} {LR : List Nat} {so rn : Nat → Nat} {ri : Nat → Nat → Int32} {rl : Nat → Nat → Int64} {M : BC} {fu : Nat} {post : lwPT} (C : lwC p l s m b c A ls adX adM len n xs) (hcs : cells + 10000 ≤ 1200384 ∧ slots + 80000 ≤ 5497258) (hW : bW D g A s H locs (lwB g adX adN adT tY adM tK tQ X N T L kd nu aa LR so rn ri rl M)) (hf : lf_3 X N T (tY.map Prod.snd) L kd nu aa LR so rn ri rl M (tK.map Prod.snd) (tQ.map Prod.snd) (xs (n + 1)) (xs (n + 2)) post) (kk : lwK p l e s m b below meth c D g A adX adT adM ls Q cells slots post) : W p l e room_1 s m #[.ref b] below meth c H locs cells slots Q (F0 m 455 ls []) := by
  have C0 := C
  obtain ⟨hx, hb, hml, hown, hts, hst, -, -, -, -, -, hl⟩ := C0
  rw [lf_3] at hf
  have hW : bW D g A s H locs [xW g adX (adN 0) (adT 0) (o_a tY) X, vW g adN N, vW g adT T, oV g tY, gW L kd nu aa, pW g LR so rn ri rl, mW g adM (o_a tK) (o_a tQ) M, oM g tK, oM g tQ] := hW
  refine lv_aload_n hx hb dL_law_455 rfl (lv_at hl 1 rfl) ?_
  refine lw_arg C hW 1 (K := 1) rfl (by decide) dL_law_456 dL_law_457 dL_law_458 dL_law_459 dL_law_460 ?_
  refine lw_arg C hW 2 (K := 2) rfl (by decide) dL_law_461 dL_law_462 dL_law_463 dL_law_464 dL_law_465 ?_
  have hp2 : List.Perm (α := va_W) [xW g adX (adN 0) (adT 0) (o_a tY) X, vW g adN N, vW g adT T, oV g tY, gW L kd nu aa, pW g LR so rn ri rl, mW g adM (o_a tK) (o_a tQ) M, oM g tK, oM g tQ] ([xW g adX (adN 0) (adT 0) (o_a tY) X, gW L kd nu aa, pW g LR so rn ri rl] ++ [vW g adN N, vW g adT T, oV g tY, mW g adM (o_a tK) (o_a tQ) M, oM g tK, oM g tQ]) := b_perm [0, 4, 5] [1, 2, 3, 6, 7, 8] 9 rfl rfl rfl rfl
  refine b_callX (vx_runVX (As := [.int (xs (n + 1)), .int (xs (n + 2))]) (rest := []) ⟨hx, hb, hml, hown, hts⟩ (m_X0_element l hst D g H.size adX (o_a tY) adN adT X L kd nu aa LR so rn ri rl (xs (n + 1)) (xs (n + 2)) _ hf) (vx_cwVW 2 hts (lw_VW q470 q471 q472 q76 q473) rfl rfl rfl (by decide +kernel) ⟨Nat.le_of_ble_eq_true rfl, Nat.le_of_ble_eq_true rfl⟩) (b_preV (pp := 0) (q := 0) hW hp2 rfl xW_0 rfl) rfl rfl hl.1 rfl (lv_room (Nat.le_of_ble_eq_true rfl)) dL_law_466 ⟨(show cells + 4 ≤ 1200384 from by (omega)), (show slots + 229 ≤ 5497258 from by (omega))⟩) hW hp2 (fun E q ce u hok H locs hW hcell hcv hcl => hok.elim) (fun u3 hf H locs hW => ?_)
  refine W.cs (cells' := (cells + 4)) (slots' := (slots + 229)) rfl rfl ?_
  try dsimp only at hf hW
  revert hf hW; generalize u3 = r1; intro hf hW
  have hW : bW D g A s H locs [xW g adX (adN 0) (adT 0) (o_a tY) X, gW L kd nu aa, pW g LR so rn ri rl, vW g adN N, vW g adT T, oV g tY, mW g adM (o_a tK) (o_a tQ) M, oM g tK, oM g tQ] := hW
  refine lv_aload_n hx hb dL_law_469 rfl (lv_at hl 2 rfl) ?_
  refine lw_arg C hW 1 (K := 1) rfl (by decide) dL_law_470 dL_law_471 dL_law_472 dL_law_473 dL_law_474 ?_
  refine lw_arg C hW 2 (K := 2) rfl (by decide) dL_law_475 dL_law_476 dL_law_477 dL_law_478 dL_law_479 ?_
  obtain ⟨r4, hc5, hf⟩ := q_b1s hf
  have hp6 : List.Perm (α := va_W) [xW g adX (adN 0) (adT 0) (o_a tY) X, gW L kd nu aa, pW g LR so rn ri rl, vW g adN N, vW g adT T, oV g tY, mW g adM (o_a tK) (o_a tQ) M, oM g tK, oM g tQ] ([mW g adM (o_a tK) (o_a tQ) M] ++ [xW g adX (adN 0) (adT 0) (o_a tY) X, gW L kd nu aa, pW g LR so rn ri rl, vW g adN N, vW g adT T, oV g tY, oM g tK, oM g tQ]) := b_perm [6] [0, 1, 2, 3, 4, 5, 7, 8] 9 rfl rfl rfl rfl
  refine b_call0 ⟨rfl, rfl⟩ (va_runV (As := [.int (xs (n + 1)), .int (xs (n + 2))]) (rest := [.long r1]) ⟨hx, hb, hml, hown, hts⟩ (m_X3_element l D g H.size adM (o_a tK) (o_a tQ) M (xs (n + 1)) (xs (n + 2)) r4 hc5) (cwV 2 hts (lw_V q1591 q1592 q1593 q79 q1594) rfl rfl rfl (by decide +kernel) ⟨Nat.le_of_ble_eq_true rfl, Nat.le_of_ble_eq_true rfl⟩) (b_preV (pp := 6) (q := 0) hW hp6 rfl mW_0 rfl) rfl rfl hl.1 rfl (lv_room (Nat.le_of_ble_eq_true rfl)) dL_law_480 ⟨(show (cells + 4) + 0 ≤ 1200384 from by (omega)), (show (slots + 229) + 0 ≤ 5497258 from by (omega))⟩) hW hp6 (fun _ _ H locs hW => ?_)
  have hW : bW D g A s H locs [mW g adM (o_a tK) (o_a tQ) M, xW g adX (adN 0) (adT 0) (o_a tY) X, gW L kd nu aa, pW g LR so rn ri rl, vW g adN N, vW g adT T, oV g tY, oM g tK, oM g tQ] := hW
  obtain ⟨he7, hf⟩ := q_cs hf; have he7 := of_decide_eq_true he7
  refine W.lcmp hx hb dL_law_483 ?_
  refine lv_if_eq (tgt := 1948) hx hb dL_law_484 (by decide) (fun _ => ?_) (fun hne => absurd (by rw [he7]; exact lw_cmp0 _) hne)
  exact kk adN tY tK tQ X N T L kd nu aa LR so rn ri rl M _ _ _ _ hf (b_perms (Bs' := [xW g adX (adN 0) (adT 0) (o_a tY) X, vW g adN N, vW g adT T, oV g tY, gW L kd nu aa, pW g LR so rn ri rl, mW g adM (o_a tK) (o_a tQ) M, oM g tK, oM g tQ]) hW (b_ord [1, 4, 5, 6, 2, 3, 0, 7, 8] 9 rfl rfl rfl)) (by (omega)) (by (omega))
def lf_4 (X : BC) (N : BC) (T : BC) (Yo : Option BC) (L : List Nat) (kd : Nat → Nat) (nu : Nat → Int32) (aa : Nat → Int32) (LR : List Nat) (so : Nat → Nat) (rn : Nat → Nat) (ri : Nat → Nat → Int32) (rl : Nat → Nat → Int64) (M : BC) (Ko : Option BC) (To : Option BC) (x1 : Int32) (post : lwPT) : Prop :=
 q_b1 (f_X0_holds X L kd nu aa LR so rn ri rl x1) fun (r1 : Int32) =>
 q_b1 (f_X3_holds M x1) fun (r4 : Int32) =>
 q_ck (decide (r1 = r4)) (post X N T Yo L kd nu aa LR so rn ri rl M Ko To)
set_option maxHeartbeats 4000000 in
set_option maxRecDepth 100000 in
theorem lc_4 {p : Program} {l : Launch} {e : Env} {s : State} {m : MethodId} {below : List Frame} {meth : Method} {c : Code} {H : Heap} {locs : List Loc} {cells slots b len n : Nat} {Q : State → Prop} {xs : Nat → Int32} {adX adT adM adN : Nat → Nat} {tY tK tQ : Option ((Nat → Nat) × BC)} {ls : Array Slot} {D : va_G} {g : Nat → ClassId} {A : Nat → Prop} {X N T : BC} {L : List Nat} {kd : Nat → Nat} {nu aa : Nat → Int32} {LR : List Nat} {so rn : Nat → Nat} {ri : Nat → Nat → Int32} {rl : Nat → Nat → Int64} {M : BC} {fu : Nat} {post : lwPT} (C : lwC p l s m b c A ls adX adM len n xs) (hcs : cells + 10000 ≤ 1200384 ∧ slots + 80000 ≤ 5497258) (hW : bW D g A s H locs (lwB g adX adN adT tY adM tK tQ X N T L kd nu aa LR so rn ri rl M)) (hf : lf_4 X N T (tY.map Prod.snd) L kd nu aa LR so rn ri rl M (tK.map Prod.snd) (tQ.map Prod.snd) (xs (n + 1)) post) (kk : lwK p l e s m b below meth c D g A adX adT adM ls Q cells slots post) : W p l e room_1 s m #[.ref b] below meth c H locs cells slots Q (F0 m 489 ls []) := by
  have C0 := C
  obtain ⟨hx, hb, hml, hown, hts, hst, -, -, -, -, -, hl⟩ := C0
  rw [lf_4] at hf
  have hW : bW D g A s H locs [xW g adX (adN 0) (adT 0) (o_a tY) X, vW g adN N, vW g adT T, oV g tY, gW L kd nu aa, pW g LR so rn ri rl, mW g adM (o_a tK) (o_a tQ) M, oM g tK, oM g tQ] := hW
  refine lv_aload_n hx hb dL_law_489 rfl (lv_at hl 1 rfl) ?_
  refine lw_arg C hW 1 (K := 1) rfl (by decide) dL_law_490 dL_law_491 dL_law_492 dL_law_493 dL_law_494 ?_
  obtain ⟨r1, hc2, hf⟩ := q_b1s hf
  have hp3 : List.Perm (α := va_W) [xW g adX (adN 0) (adT 0) (o_a tY) X, vW g adN N, vW g adT T, oV g tY, gW L kd nu aa, pW g LR so rn ri rl, mW g adM (o_a tK) (o_a tQ) M, oM g tK, oM g tQ] ([xW g adX (adN 0) (adT 0) (o_a tY) X, gW L kd nu aa, pW g LR so rn ri rl] ++ [vW g adN N, vW g adT T, oV g tY, mW g adM (o_a tK) (o_a tQ) M, oM g tK, oM g tQ]) := b_perm [0, 4, 5] [1, 2, 3, 6, 7, 8] 9 rfl rfl rfl rfl
  refine b_call0 ⟨rfl, rfl⟩ (va_runV (As := [.int (xs (n + 1))]) (rest := []) ⟨hx, hb, hml, hown, hts⟩ (m_X0_holds l D g H.size adX (o_a tY) adN adT X L kd nu aa LR so rn ri rl (xs (n + 1)) r1 hc2) (cwV 1 hts (lw_V q477 q478 q479 q76 q480) rfl rfl rfl (by decide +kernel) ⟨Nat.le_of_ble_eq_true rfl, Nat.le_of_ble_eq_true rfl⟩) (b_preV (pp := 0) (q := 0) hW hp3 rfl xW_0 rfl) rfl rfl hl.1 rfl (lv_room (Nat.le_of_ble_eq_true rfl)) dL_law_495 ⟨(show cells + 0 ≤ 1200384 from by (omega)), (show slots + 0 ≤ 5497258 from by (omega))⟩) hW hp3 (fun _ _ H locs hW => ?_)
  have hW : bW D g A s H locs [xW g adX (adN 0) (adT 0) (o_a tY) X, gW L kd nu aa, pW g LR so rn ri rl, vW g adN N, vW g adT T, oV g tY, mW g adM (o_a tK) (o_a tQ) M, oM g tK, oM g tQ] := hW
  refine lv_aload_n hx hb dL_law_498 rfl (lv_at hl 2 rfl) ?_
  refine lw_arg C hW 1 (K := 1) rfl (by decide) dL_law_499 dL_law_500 dL_law_501 dL_law_502 dL_law_503 ?_
  obtain ⟨r4, hc5, hf⟩ := q_b1s hf
  have hp6 : List.Perm (α := va_W) [xW g adX (adN 0) (adT 0) (o_a tY) X, gW L kd nu aa, pW g LR so rn ri rl, vW g adN N, vW g adT T, oV g tY, mW g adM (o_a tK) (o_a tQ) M, oM g tK, oM g tQ] ([mW g adM (o_a tK) (o_a tQ) M] ++ [xW g adX (adN 0) (adT 0) (o_a tY) X, gW L kd nu aa, pW g LR so rn ri rl, vW g adN N, vW g adT T, oV g tY, oM g tK, oM g tQ]) := b_perm [6] [0, 1, 2, 3, 4, 5, 7, 8] 9 rfl rfl rfl rfl
  refine b_call0 ⟨rfl, rfl⟩ (va_runV (As := [.int (xs (n + 1))]) (rest := [.int r1]) ⟨hx, hb, hml, hown, hts⟩ (m_X3_holds l D g H.size adM (o_a tK) (o_a tQ) M (xs (n + 1)) r4 hc5) (cwV 1 hts (lw_V q1595 q1596 q1597 q79 q1598) rfl rfl rfl (by decide +kernel) ⟨Nat.le_of_ble_eq_true rfl, Nat.le_of_ble_eq_true rfl⟩) (b_preV (pp := 6) (q := 0) hW hp6 rfl mW_0 rfl) rfl rfl hl.1 rfl (lv_room (Nat.le_of_ble_eq_true rfl)) dL_law_504 ⟨(show cells + 0 ≤ 1200384 from by (omega)), (show slots + 0 ≤ 5497258 from by (omega))⟩) hW hp6 (fun _ _ H locs hW => ?_)
  have hW : bW D g A s H locs [mW g adM (o_a tK) (o_a tQ) M, xW g adX (adN 0) (adT 0) (o_a tY) X, gW L kd nu aa, pW g LR so rn ri rl, vW g adN N, vW g adT T, oV g tY, oM g tK, oM g tQ] := hW
  obtain ⟨he7, hf⟩ := q_cs hf; have he7 := of_decide_eq_true he7
  refine lv_icmp_eq (tgt := 1948) hx hb dL_law_507 (by decide) (fun _ => ?_) (fun hne => absurd he7 hne)
  exact kk adN tY tK tQ X N T L kd nu aa LR so rn ri rl M _ _ _ _ hf (b_perms (Bs' := [xW g adX (adN 0) (adT 0) (o_a tY) X, vW g adN N, vW g adT T, oV g tY, gW L kd nu aa, pW g LR so rn ri rl, mW g adM (o_a tK) (o_a tQ) M, oM g tK, oM g tQ]) hW (b_ord [1, 4, 5, 6, 2, 3, 0, 7, 8] 9 rfl rfl rfl)) (by (omega)) (by (omega))
def lf_5 (X : BC) (N : BC) (T : BC) (Yo : Option BC) (L : List Nat) (kd : Nat → Nat) (nu : Nat → Int32) (aa : Nat → Int32) (LR : List Nat) (so : Nat → Nat) (rn : Nat → Nat) (ri : Nat → Nat → Int32) (rl : Nat → Nat → Int64) (M : BC) (Ko : Option BC) (To : Option BC) (x1 : Int32) (x2 : Int32) (post : lwPT) : Prop :=
 q_b2 (f_X0_show X N L kd nu aa x1 x2) fun (r1 : Int32) (X2 : BC) =>
 q_b2 (f_X3_show M x1 x2) fun (r5 : Int32) (M6 : BC) =>
 q_ck (decide (r1 = r5)) (post X2 N T Yo L kd nu aa LR so rn ri rl M6 Ko To)
set_option maxHeartbeats 4000000 in
set_option maxRecDepth 100000 in
theorem lc_5 {p : Program} {l : Launch} {e : Env} {s : State} {m : MethodId} {below : List Frame} {meth : Method} {c : Code} {H : Heap} {locs : List Loc} {cells slots b len n : Nat} {Q : State → Prop} {xs : Nat → Int32} {adX adT adM adN : Nat → Nat} {tY tK tQ : Option ((Nat → Nat) × BC)} {ls : Array Slot} {D : va_G} {g : Nat → ClassId} {A : Nat → Prop} {X N T : BC} {L : List Nat} {kd : Nat → Nat} {nu aa : Nat → Int32} {LR : List Nat} {so rn : Nat → Nat} {ri : Nat → Nat → Int32} {rl : Nat → Nat → Int64} {M : BC} {fu : Nat} {post : lwPT} (C : lwC p l s m b c A ls adX adM len n xs) (hcs : cells + 10000 ≤ 1200384 ∧ slots + 80000 ≤ 5497258) (hW : bW D g A s H locs (lwB g adX adN adT tY adM tK tQ X N T L kd nu aa LR so rn ri rl M)) (hf : lf_5 X N T (tY.map Prod.snd) L kd nu aa LR so rn ri rl M (tK.map Prod.snd) (tQ.map Prod.snd) (xs (n + 1)) (xs (n + 2)) post) (kk : lwK p l e s m b below meth c D g A adX adT adM ls Q cells slots post) : W p l e room_1 s m #[.ref b] below meth c H locs cells slots Q (F0 m 512 ls []) := by
  have C0 := C
  obtain ⟨hx, hb, hml, hown, hts, hst, -, -, -, -, -, hl⟩ := C0
  rw [lf_5] at hf
  have hW : bW D g A s H locs [xW g adX (adN 0) (adT 0) (o_a tY) X, vW g adN N, vW g adT T, oV g tY, gW L kd nu aa, pW g LR so rn ri rl, mW g adM (o_a tK) (o_a tQ) M, oM g tK, oM g tQ] := hW
  refine lv_aload_n hx hb dL_law_512 rfl (lv_at hl 1 rfl) ?_
  refine lw_arg C hW 1 (K := 1) rfl (by decide) dL_law_513 dL_law_514 dL_law_515 dL_law_516 dL_law_517 ?_
  refine lw_arg C hW 2 (K := 2) rfl (by decide) dL_law_518 dL_law_519 dL_law_520 dL_law_521 dL_law_522 ?_
  obtain ⟨r1, X2, hc3, hf⟩ := q_b2s hf
  have hp4 : List.Perm (α := va_W) [xW g adX (adN 0) (adT 0) (o_a tY) X, vW g adN N, vW g adT T, oV g tY, gW L kd nu aa, pW g LR so rn ri rl, mW g adM (o_a tK) (o_a tQ) M, oM g tK, oM g tQ] ([xW g adX (adN 0) (adT 0) (o_a tY) X, vW g adN N, gW L kd nu aa] ++ [vW g adT T, oV g tY, pW g LR so rn ri rl, mW g adM (o_a tK) (o_a tQ) M, oM g tK, oM g tQ]) := b_perm [0, 1, 4] [2, 3, 5, 6, 7, 8] 9 rfl rfl rfl rfl
  refine b_call0 ⟨rfl, rfl⟩ (va_runV (As := [.int (xs (n + 1)), .int (xs (n + 2))]) (rest := []) ⟨hx, hb, hml, hown, hts⟩ (m_X0_show l D g H.size adX (o_a tY) adN adT X N L kd nu aa (xs (n + 1)) (xs (n + 2)) r1 X2 hc3) (cwV 2 hts (lw_V q481 q482 q483 q76 q484) rfl rfl rfl (by decide +kernel) ⟨Nat.le_of_ble_eq_true rfl, Nat.le_of_ble_eq_true rfl⟩) (b_preV (pp := 0) (q := 0) hW hp4 rfl xW_0 rfl) rfl rfl hl.1 rfl (lv_room (Nat.le_of_ble_eq_true rfl)) dL_law_523 ⟨(show cells + 0 ≤ 1200384 from by (omega)), (show slots + 0 ≤ 5497258 from by (omega))⟩) hW hp4 (fun _ _ H locs hW => ?_)
  have hW : bW D g A s H locs [xW g adX (adN 0) (adT 0) (o_a tY) X2, vW g adN N, gW L kd nu aa, vW g adT T, oV g tY, pW g LR so rn ri rl, mW g adM (o_a tK) (o_a tQ) M, oM g tK, oM g tQ] := hW
  refine lv_aload_n hx hb dL_law_526 rfl (lv_at hl 2 rfl) ?_
  refine lw_arg C hW 1 (K := 1) rfl (by decide) dL_law_527 dL_law_528 dL_law_529 dL_law_530 dL_law_531 ?_
  refine lw_arg C hW 2 (K := 2) rfl (by decide) dL_law_532 dL_law_533 dL_law_534 dL_law_535 dL_law_536 ?_
  obtain ⟨r5, M6, hc7, hf⟩ := q_b2s hf
  have hp8 : List.Perm (α := va_W) [xW g adX (adN 0) (adT 0) (o_a tY) X2, vW g adN N, gW L kd nu aa, vW g adT T, oV g tY, pW g LR so rn ri rl, mW g adM (o_a tK) (o_a tQ) M, oM g tK, oM g tQ] ([mW g adM (o_a tK) (o_a tQ) M] ++ [xW g adX (adN 0) (adT 0) (o_a tY) X2, vW g adN N, gW L kd nu aa, vW g adT T, oV g tY, pW g LR so rn ri rl, oM g tK, oM g tQ]) := b_perm [6] [0, 1, 2, 3, 4, 5, 7, 8] 9 rfl rfl rfl rfl
  refine b_call0 ⟨rfl, rfl⟩ (va_runV (As := [.int (xs (n + 1)), .int (xs (n + 2))]) (rest := [.int r1]) ⟨hx, hb, hml, hown, hts⟩ (m_X3_show l D g H.size adM (o_a tK) (o_a tQ) M (xs (n + 1)) (xs (n + 2)) r5 M6 hc7) (cwV 2 hts (lw_V q1599 q1600 q1601 q79 q1602) rfl rfl rfl (by decide +kernel) ⟨Nat.le_of_ble_eq_true rfl, Nat.le_of_ble_eq_true rfl⟩) (b_preV (pp := 6) (q := 0) hW hp8 rfl mW_0 rfl) rfl rfl hl.1 rfl (lv_room (Nat.le_of_ble_eq_true rfl)) dL_law_537 ⟨(show cells + 0 ≤ 1200384 from by (omega)), (show slots + 0 ≤ 5497258 from by (omega))⟩) hW hp8 (fun _ _ H locs hW => ?_)
  have hW : bW D g A s H locs [mW g adM (o_a tK) (o_a tQ) M6, xW g adX (adN 0) (adT 0) (o_a tY) X2, vW g adN N, gW L kd nu aa, vW g adT T, oV g tY, pW g LR so rn ri rl, oM g tK, oM g tQ] := hW
  obtain ⟨he9, hf⟩ := q_cs hf; have he9 := of_decide_eq_true he9
  refine lv_icmp_eq (tgt := 1948) hx hb dL_law_540 (by decide) (fun _ => ?_) (fun hne => absurd he9 hne)
  exact kk adN tY tK tQ X2 N T L kd nu aa LR so rn ri rl M6 _ _ _ _ hf (b_perms (Bs' := [xW g adX (adN 0) (adT 0) (o_a tY) X2, vW g adN N, vW g adT T, oV g tY, gW L kd nu aa, pW g LR so rn ri rl, mW g adM (o_a tK) (o_a tQ) M6, oM g tK, oM g tQ]) hW (b_ord [1, 2, 4, 5, 3, 6, 0, 7, 8] 9 rfl rfl rfl)) (by (omega)) (by (omega))
def lf_6 (fu : Nat) (X : BC) (N : BC) (T : BC) (Yo : Option BC) (L : List Nat) (kd : Nat → Nat) (nu : Nat → Int32) (aa : Nat → Int32) (LR : List Nat) (so : Nat → Nat) (rn : Nat → Nat) (ri : Nat → Nat → Int32) (rl : Nat → Nat → Int64) (M : BC) (Ko : Option BC) (To : Option BC) (x1 : Int32) (x2 : Int32) (post : lwPT) : Prop :=
 f_X0_says fu X N L kd nu aa LR so rn ri rl x1 x2 (fun (r1 : Int32) (X2 : BC) =>
 q_b2 (f_X3_says fu M x1 x2) fun (r5 : Int32) (M6 : BC) =>
 q_ck (decide (r1 = r5)) (post X2 N T Yo L kd nu aa LR so rn ri rl M6 Ko To))
set_option maxHeartbeats 4000000 in
set_option maxRecDepth 100000 in
theorem lc_6 {p : Program} {l : Launch} {e : Env} {s : State} {m : MethodId} {below : List Frame} {meth : Method} {c : Code} {H : Heap} {locs : List Loc} {cells slots b len n : Nat} {Q : State → Prop} {xs : Nat → Int32} {adX adT adM adN : Nat → Nat} {tY tK tQ : Option ((Nat → Nat) × BC)} {ls : Array Slot} {D : va_G} {g : Nat → ClassId} {A : Nat → Prop} {X N T : BC} {L : List Nat} {kd : Nat → Nat} {nu aa : Nat → Int32} {LR : List Nat} {so rn : Nat → Nat} {ri : Nat → Nat → Int32} {rl : Nat → Nat → Int64} {M : BC} {fu : Nat} {post : lwPT} (C : lwC p l s m b c A ls adX adM len n xs) (hcs : cells + 10000 ≤ 1200384 ∧ slots + 80000 ≤ 5497258) (hW : bW D g A s H locs (lwB g adX adN adT tY adM tK tQ X N T L kd nu aa LR so rn ri rl M)) (hf : lf_6 fu X N T (tY.map Prod.snd) L kd nu aa LR so rn ri rl M (tK.map Prod.snd) (tQ.map Prod.snd) (xs (n + 1)) (xs (n + 2)) post) (kk : lwK p l e s m b below meth c D g A adX adT adM ls Q cells slots post) : W p l e room_1 s m #[.ref b] below meth c H locs cells slots Q (F0 m 545 ls []) := by
  have C0 := C
  obtain ⟨hx, hb, hml, hown, hts, hst, -, -, -, -, -, hl⟩ := C0
  rw [lf_6] at hf
  have hW : bW D g A s H locs [xW g adX (adN 0) (adT 0) (o_a tY) X, vW g adN N, vW g adT T, oV g tY, gW L kd nu aa, pW g LR so rn ri rl, mW g adM (o_a tK) (o_a tQ) M, oM g tK, oM g tQ] := hW
  refine lv_aload_n hx hb dL_law_545 rfl (lv_at hl 1 rfl) ?_
  refine lw_arg C hW 1 (K := 1) rfl (by decide) dL_law_546 dL_law_547 dL_law_548 dL_law_549 dL_law_550 ?_
  refine lw_arg C hW 2 (K := 2) rfl (by decide) dL_law_551 dL_law_552 dL_law_553 dL_law_554 dL_law_555 ?_
  have hp3 : List.Perm (α := va_W) [xW g adX (adN 0) (adT 0) (o_a tY) X, vW g adN N, vW g adT T, oV g tY, gW L kd nu aa, pW g LR so rn ri rl, mW g adM (o_a tK) (o_a tQ) M, oM g tK, oM g tQ] ([xW g adX (adN 0) (adT 0) (o_a tY) X, vW g adN N, gW L kd nu aa, pW g LR so rn ri rl] ++ [vW g adT T, oV g tY, mW g adM (o_a tK) (o_a tQ) M, oM g tK, oM g tQ]) := b_perm [0, 1, 4, 5] [2, 3, 6, 7, 8] 9 rfl rfl rfl rfl
  refine b_callX (vx_runVX (As := [.int (xs (n + 1)), .int (xs (n + 2))]) (rest := []) ⟨hx, hb, hml, hown, hts⟩ (m_X0_says l hst D g H.size adX (o_a tY) adN adT fu X N L kd nu aa LR so rn ri rl (xs (n + 1)) (xs (n + 2)) _ hf) (vx_cwVW 2 hts (lw_VW q489 q490 q491 q76 q492) rfl rfl rfl (by decide +kernel) ⟨Nat.le_of_ble_eq_true rfl, Nat.le_of_ble_eq_true rfl⟩) (b_preV (pp := 0) (q := 0) hW hp3 rfl xW_0 rfl) rfl rfl hl.1 rfl (lv_room (Nat.le_of_ble_eq_true rfl)) dL_law_556 ⟨(show cells + 3 ≤ 1200384 from by (omega)), (show slots + 1010 ≤ 5497258 from by (omega))⟩) hW hp3 (fun E q ce u hok H locs hW hcell hcv hcl => hok.elim) (fun u4 hf H locs hW => ?_)
  refine W.cs (cells' := (cells + 3)) (slots' := (slots + 1010)) rfl rfl ?_
  try dsimp only at hf hW
  obtain ⟨r1, X2⟩ := u4; try dsimp only at hf hW ⊢
  have hW : bW D g A s H locs [xW g adX (adN 0) (adT 0) (o_a tY) X2, vW g adN N, gW L kd nu aa, pW g LR so rn ri rl, vW g adT T, oV g tY, mW g adM (o_a tK) (o_a tQ) M, oM g tK, oM g tQ] := hW
  refine lv_aload_n hx hb dL_law_559 rfl (lv_at hl 2 rfl) ?_
  refine lw_arg C hW 1 (K := 1) rfl (by decide) dL_law_560 dL_law_561 dL_law_562 dL_law_563 dL_law_564 ?_
  refine lw_arg C hW 2 (K := 2) rfl (by decide) dL_law_565 dL_law_566 dL_law_567 dL_law_568 dL_law_569 ?_
  obtain ⟨r5, M6, hc7, hf⟩ := q_b2s hf
  have hp8 : List.Perm (α := va_W) [xW g adX (adN 0) (adT 0) (o_a tY) X2, vW g adN N, gW L kd nu aa, pW g LR so rn ri rl, vW g adT T, oV g tY, mW g adM (o_a tK) (o_a tQ) M, oM g tK, oM g tQ] ([mW g adM (o_a tK) (o_a tQ) M] ++ [xW g adX (adN 0) (adT 0) (o_a tY) X2, vW g adN N, gW L kd nu aa, pW g LR so rn ri rl, vW g adT T, oV g tY, oM g tK, oM g tQ]) := b_perm [6] [0, 1, 2, 3, 4, 5, 7, 8] 9 rfl rfl rfl rfl
  refine b_call0 ⟨rfl, rfl⟩ (va_runV (As := [.int (xs (n + 1)), .int (xs (n + 2))]) (rest := [.int r1]) ⟨hx, hb, hml, hown, hts⟩ (m_X3_says l D g H.size adM (o_a tK) (o_a tQ) fu M (xs (n + 1)) (xs (n + 2)) r5 M6 hc7) (cwV 2 hts (lw_V q1607 q1608 q1609 q79 q1610) rfl rfl rfl (by decide +kernel) ⟨Nat.le_of_ble_eq_true rfl, Nat.le_of_ble_eq_true rfl⟩) (b_preV (pp := 6) (q := 0) hW hp8 rfl mW_0 rfl) rfl rfl hl.1 rfl (lv_room (Nat.le_of_ble_eq_true rfl)) dL_law_570 ⟨(show (cells + 3) + 0 ≤ 1200384 from by (omega)), (show (slots + 1010) + 0 ≤ 5497258 from by (omega))⟩) hW hp8 (fun _ _ H locs hW => ?_)
  have hW : bW D g A s H locs [mW g adM (o_a tK) (o_a tQ) M6, xW g adX (adN 0) (adT 0) (o_a tY) X2, vW g adN N, gW L kd nu aa, pW g LR so rn ri rl, vW g adT T, oV g tY, oM g tK, oM g tQ] := hW
  obtain ⟨he9, hf⟩ := q_cs hf; have he9 := of_decide_eq_true he9
  refine lv_icmp_eq (tgt := 1948) hx hb dL_law_573 (by decide) (fun _ => ?_) (fun hne => absurd he9 hne)
  exact kk adN tY tK tQ X2 N T L kd nu aa LR so rn ri rl M6 _ _ _ _ hf (b_perms (Bs' := [xW g adX (adN 0) (adT 0) (o_a tY) X2, vW g adN N, vW g adT T, oV g tY, gW L kd nu aa, pW g LR so rn ri rl, mW g adM (o_a tK) (o_a tQ) M6, oM g tK, oM g tQ]) hW (b_ord [1, 2, 5, 6, 3, 4, 0, 7, 8] 9 rfl rfl rfl)) (by (omega)) (by (omega))
def lf_7 (X : BC) (N : BC) (T : BC) (Yo : Option BC) (L : List Nat) (kd : Nat → Nat) (nu : Nat → Int32) (aa : Nat → Int32) (LR : List Nat) (so : Nat → Nat) (rn : Nat → Nat) (ri : Nat → Nat → Int32) (rl : Nat → Nat → Int64) (M : BC) (Ko : Option BC) (To : Option BC) (x1 : Int32) (x2 : Int32) (x3 : Int32) (post : lwPT) : Prop :=
 q_b3 (f_X0_inn X N x1 x2 x3) fun (r1 : Int32) (X2 : BC) (N3 : BC) =>
 q_b2 (f_X3_inn M x1 x2 x3) fun (r6 : Int32) (M7 : BC) =>
 q_ck (decide (r1 = r6)) (post X2 N3 T Yo L kd nu aa LR so rn ri rl M7 Ko To)
set_option maxHeartbeats 4000000 in
set_option maxRecDepth 100000 in
theorem lc_7 {p : Program} {l : Launch} {e : Env} {s : State} {m : MethodId} {below : List Frame} {meth : Method} {c : Code} {H : Heap} {locs : List Loc} {cells slots b len n : Nat} {Q : State → Prop} {xs : Nat → Int32} {adX adT adM adN : Nat → Nat} {tY tK tQ : Option ((Nat → Nat) × BC)} {ls : Array Slot} {D : va_G} {g : Nat → ClassId} {A : Nat → Prop} {X N T : BC} {L : List Nat} {kd : Nat → Nat} {nu aa : Nat → Int32} {LR : List Nat} {so rn : Nat → Nat} {ri : Nat → Nat → Int32} {rl : Nat → Nat → Int64} {M : BC} {fu : Nat} {post : lwPT} (C : lwC p l s m b c A ls adX adM len n xs) (hcs : cells + 10000 ≤ 1200384 ∧ slots + 80000 ≤ 5497258) (hW : bW D g A s H locs (lwB g adX adN adT tY adM tK tQ X N T L kd nu aa LR so rn ri rl M)) (hf : lf_7 X N T (tY.map Prod.snd) L kd nu aa LR so rn ri rl M (tK.map Prod.snd) (tQ.map Prod.snd) (xs (n + 1)) (xs (n + 2)) (xs (n + 3)) post) (kk : lwK p l e s m b below meth c D g A adX adT adM ls Q cells slots post) : W p l e room_1 s m #[.ref b] below meth c H locs cells slots Q (F0 m 578 ls []) := by
  have C0 := C
  obtain ⟨hx, hb, hml, hown, hts, hst, -, -, -, -, -, hl⟩ := C0
  rw [lf_7] at hf
  have hW : bW D g A s H locs [xW g adX (adN 0) (adT 0) (o_a tY) X, vW g adN N, vW g adT T, oV g tY, gW L kd nu aa, pW g LR so rn ri rl, mW g adM (o_a tK) (o_a tQ) M, oM g tK, oM g tQ] := hW
  refine lv_aload_n hx hb dL_law_578 rfl (lv_at hl 1 rfl) ?_
  refine lw_arg C hW 1 (K := 1) rfl (by decide) dL_law_579 dL_law_580 dL_law_581 dL_law_582 dL_law_583 ?_
  refine lw_arg C hW 2 (K := 2) rfl (by decide) dL_law_584 dL_law_585 dL_law_586 dL_law_587 dL_law_588 ?_
  refine lw_arg C hW 3 (K := 3) rfl (by decide) dL_law_589 dL_law_590 dL_law_591 dL_law_592 dL_law_593 ?_
  obtain ⟨r1, X2, N3, hc4, hf⟩ := q_b3s hf
  have hp5 : List.Perm (α := va_W) [xW g adX (adN 0) (adT 0) (o_a tY) X, vW g adN N, vW g adT T, oV g tY, gW L kd nu aa, pW g LR so rn ri rl, mW g adM (o_a tK) (o_a tQ) M, oM g tK, oM g tQ] ([xW g adX (adN 0) (adT 0) (o_a tY) X, vW g adN N] ++ [vW g adT T, oV g tY, gW L kd nu aa, pW g LR so rn ri rl, mW g adM (o_a tK) (o_a tQ) M, oM g tK, oM g tQ]) := b_perm [0, 1] [2, 3, 4, 5, 6, 7, 8] 9 rfl rfl rfl rfl
  refine b_call0 ⟨rfl, rfl⟩ (va_runV (As := [.int (xs (n + 1)), .int (xs (n + 2)), .int (xs (n + 3))]) (rest := []) ⟨hx, hb, hml, hown, hts⟩ (m_X0_inn l D g H.size adX (o_a tY) adN adT X N (xs (n + 1)) (xs (n + 2)) (xs (n + 3)) r1 X2 N3 hc4) (cwV 3 hts (lw_V q595 q596 q597 q76 q598) rfl rfl rfl (by decide +kernel) ⟨Nat.le_of_ble_eq_true rfl, Nat.le_of_ble_eq_true rfl⟩) (b_preV (pp := 0) (q := 0) hW hp5 rfl xW_0 rfl) rfl rfl hl.1 rfl (lv_room (Nat.le_of_ble_eq_true rfl)) dL_law_594 ⟨(show cells + 0 ≤ 1200384 from by (omega)), (show slots + 0 ≤ 5497258 from by (omega))⟩) hW hp5 (fun _ _ H locs hW => ?_)
  have hW : bW D g A s H locs [xW g adX (adN 0) (adT 0) (o_a tY) X2, vW g adN N3, vW g adT T, oV g tY, gW L kd nu aa, pW g LR so rn ri rl, mW g adM (o_a tK) (o_a tQ) M, oM g tK, oM g tQ] := hW
  refine lv_aload_n hx hb dL_law_597 rfl (lv_at hl 2 rfl) ?_
  refine lw_arg C hW 1 (K := 1) rfl (by decide) dL_law_598 dL_law_599 dL_law_600 dL_law_601 dL_law_602 ?_
  refine lw_arg C hW 2 (K := 2) rfl (by decide) dL_law_603 dL_law_604 dL_law_605 dL_law_606 dL_law_607 ?_
  refine lw_arg C hW 3 (K := 3) rfl (by decide) dL_law_608 dL_law_609 dL_law_610 dL_law_611 dL_law_612 ?_
  obtain ⟨r6, M7, hc8, hf⟩ := q_b2s hf
  have hp9 : List.Perm (α := va_W) [xW g adX (adN 0) (adT 0) (o_a tY) X2, vW g adN N3, vW g adT T, oV g tY, gW L kd nu aa, pW g LR so rn ri rl, mW g adM (o_a tK) (o_a tQ) M, oM g tK, oM g tQ] ([mW g adM (o_a tK) (o_a tQ) M] ++ [xW g adX (adN 0) (adT 0) (o_a tY) X2, vW g adN N3, vW g adT T, oV g tY, gW L kd nu aa, pW g LR so rn ri rl, oM g tK, oM g tQ]) := b_perm [6] [0, 1, 2, 3, 4, 5, 7, 8] 9 rfl rfl rfl rfl
  refine b_call0 ⟨rfl, rfl⟩ (va_runV (As := [.int (xs (n + 1)), .int (xs (n + 2)), .int (xs (n + 3))]) (rest := [.int r1]) ⟨hx, hb, hml, hown, hts⟩ (m_X3_inn l D g H.size adM (o_a tK) (o_a tQ) M (xs (n + 1)) (xs (n + 2)) (xs (n + 3)) r6 M7 hc8) (cwV 3 hts (lw_V q1631 q1632 q1633 q79 q1634) rfl rfl rfl (by decide +kernel) ⟨Nat.le_of_ble_eq_true rfl, Nat.le_of_ble_eq_true rfl⟩) (b_preV (pp := 6) (q := 0) hW hp9 rfl mW_0 rfl) rfl rfl hl.1 rfl (lv_room (Nat.le_of_ble_eq_true rfl)) dL_law_613 ⟨(show cells + 0 ≤ 1200384 from by (omega)), (show slots + 0 ≤ 5497258 from by (omega))⟩) hW hp9 (fun _ _ H locs hW => ?_)
  have hW : bW D g A s H locs [mW g adM (o_a tK) (o_a tQ) M7, xW g adX (adN 0) (adT 0) (o_a tY) X2, vW g adN N3, vW g adT T, oV g tY, gW L kd nu aa, pW g LR so rn ri rl, oM g tK, oM g tQ] := hW
  obtain ⟨he10, hf⟩ := q_cs hf; have he10 := of_decide_eq_true he10
  refine lv_icmp_eq (tgt := 1948) hx hb dL_law_616 (by decide) (fun _ => ?_) (fun hne => absurd he10 hne)
  exact kk adN tY tK tQ X2 N3 T L kd nu aa LR so rn ri rl M7 _ _ _ _ hf (b_perms (Bs' := [xW g adX (adN 0) (adT 0) (o_a tY) X2, vW g adN N3, vW g adT T, oV g tY, gW L kd nu aa, pW g LR so rn ri rl, mW g adM (o_a tK) (o_a tQ) M7, oM g tK, oM g tQ]) hW (b_ord [1, 2, 3, 4, 5, 6, 0, 7, 8] 9 rfl rfl rfl)) (by (omega)) (by (omega))
def lf_8 (X : BC) (N : BC) (T : BC) (Yo : Option BC) (L : List Nat) (kd : Nat → Nat) (nu : Nat → Int32) (aa : Nat → Int32) (LR : List Nat) (so : Nat → Nat) (rn : Nat → Nat) (ri : Nat → Nat → Int32) (rl : Nat → Nat → Int64) (M : BC) (Ko : Option BC) (To : Option BC) (x1 : Int32) (x2 : Int32) (x3 : Int32) (post : lwPT) : Prop :=
 f_X0_goer X N L kd nu aa x1 x2 x3 (fun (r1 : Int32) (X2 : BC) (N3 : BC) (L4 : List Nat) (kd5 : Nat → Nat) (nu6 : Nat → Int32) (aa7 : Nat → Int32) =>
 q_b2 (f_X3_goer M x1 x2 x3) fun (r10 : Int32) (M11 : BC) =>
 q_ck (decide (r1 = r10)) (post X2 N3 T Yo L4 kd5 nu6 aa7 LR so rn ri rl M11 Ko To))
set_option maxHeartbeats 4000000 in
set_option maxRecDepth 100000 in
theorem lc_8 {p : Program} {l : Launch} {e : Env} {s : State} {m : MethodId} {below : List Frame} {meth : Method} {c : Code} {H : Heap} {locs : List Loc} {cells slots b len n : Nat} {Q : State → Prop} {xs : Nat → Int32} {adX adT adM adN : Nat → Nat} {tY tK tQ : Option ((Nat → Nat) × BC)} {ls : Array Slot} {D : va_G} {g : Nat → ClassId} {A : Nat → Prop} {X N T : BC} {L : List Nat} {kd : Nat → Nat} {nu aa : Nat → Int32} {LR : List Nat} {so rn : Nat → Nat} {ri : Nat → Nat → Int32} {rl : Nat → Nat → Int64} {M : BC} {fu : Nat} {post : lwPT} (C : lwC p l s m b c A ls adX adM len n xs) (hcs : cells + 10000 ≤ 1200384 ∧ slots + 80000 ≤ 5497258) (hW : bW D g A s H locs (lwB g adX adN adT tY adM tK tQ X N T L kd nu aa LR so rn ri rl M)) (hf : lf_8 X N T (tY.map Prod.snd) L kd nu aa LR so rn ri rl M (tK.map Prod.snd) (tQ.map Prod.snd) (xs (n + 1)) (xs (n + 2)) (xs (n + 3)) post) (kk : lwK p l e s m b below meth c D g A adX adT adM ls Q cells slots post) : W p l e room_1 s m #[.ref b] below meth c H locs cells slots Q (F0 m 621 ls []) := by
  have C0 := C
  obtain ⟨hx, hb, hml, hown, hts, hst, -, -, -, -, -, hl⟩ := C0
  rw [lf_8] at hf
  have hW : bW D g A s H locs [xW g adX (adN 0) (adT 0) (o_a tY) X, vW g adN N, vW g adT T, oV g tY, gW L kd nu aa, pW g LR so rn ri rl, mW g adM (o_a tK) (o_a tQ) M, oM g tK, oM g tQ] := hW
  refine lv_aload_n hx hb dL_law_621 rfl (lv_at hl 1 rfl) ?_
  refine lw_arg C hW 1 (K := 1) rfl (by decide) dL_law_622 dL_law_623 dL_law_624 dL_law_625 dL_law_626 ?_
  refine lw_arg C hW 2 (K := 2) rfl (by decide) dL_law_627 dL_law_628 dL_law_629 dL_law_630 dL_law_631 ?_
  refine lw_arg C hW 3 (K := 3) rfl (by decide) dL_law_632 dL_law_633 dL_law_634 dL_law_635 dL_law_636 ?_
  have hp8 : List.Perm (α := va_W) [xW g adX (adN 0) (adT 0) (o_a tY) X, vW g adN N, vW g adT T, oV g tY, gW L kd nu aa, pW g LR so rn ri rl, mW g adM (o_a tK) (o_a tQ) M, oM g tK, oM g tQ] ([xW g adX (adN 0) (adT 0) (o_a tY) X, vW g adN N, gW L kd nu aa] ++ [vW g adT T, oV g tY, pW g LR so rn ri rl, mW g adM (o_a tK) (o_a tQ) M, oM g tK, oM g tQ]) := b_perm [0, 1, 4] [2, 3, 5, 6, 7, 8] 9 rfl rfl rfl rfl
  refine b_call (va_runV (As := [.int (xs (n + 1)), .int (xs (n + 2)), .int (xs (n + 3))]) (rest := []) ⟨hx, hb, hml, hown, hts⟩ (m_X0_goer l D g H.size adX (o_a tY) adN adT X N L kd nu aa (xs (n + 1)) (xs (n + 2)) (xs (n + 3)) _ hf) (cwV 3 hts (lw_V q603 q604 q605 q76 q606) rfl rfl rfl (by decide +kernel) ⟨Nat.le_of_ble_eq_true rfl, Nat.le_of_ble_eq_true rfl⟩) (b_preV (pp := 0) (q := 0) hW hp8 rfl xW_0 rfl) rfl rfl hl.1 rfl (lv_room (Nat.le_of_ble_eq_true rfl)) dL_law_637 ⟨(show cells + 1 ≤ 1200384 from by (omega)), (show slots + 2 ≤ 5497258 from by (omega))⟩) hW hp8 (fun u9 hf H locs hW => ?_)
  refine W.cs (cells' := (cells + 1)) (slots' := (slots + 2)) rfl rfl ?_
  try dsimp only at hf hW
  obtain ⟨r1, X2, N3, L4, kd5, nu6, aa7⟩ := u9; try dsimp only at hf hW ⊢
  have hW : bW D g A s H locs [xW g adX (adN 0) (adT 0) (o_a tY) X2, vW g adN N3, gW L4 kd5 nu6 aa7, vW g adT T, oV g tY, pW g LR so rn ri rl, mW g adM (o_a tK) (o_a tQ) M, oM g tK, oM g tQ] := hW
  refine lv_aload_n hx hb dL_law_640 rfl (lv_at hl 2 rfl) ?_
  refine lw_arg C hW 1 (K := 1) rfl (by decide) dL_law_641 dL_law_642 dL_law_643 dL_law_644 dL_law_645 ?_
  refine lw_arg C hW 2 (K := 2) rfl (by decide) dL_law_646 dL_law_647 dL_law_648 dL_law_649 dL_law_650 ?_
  refine lw_arg C hW 3 (K := 3) rfl (by decide) dL_law_651 dL_law_652 dL_law_653 dL_law_654 dL_law_655 ?_
  obtain ⟨r10, M11, hc12, hf⟩ := q_b2s hf
  have hp13 : List.Perm (α := va_W) [xW g adX (adN 0) (adT 0) (o_a tY) X2, vW g adN N3, gW L4 kd5 nu6 aa7, vW g adT T, oV g tY, pW g LR so rn ri rl, mW g adM (o_a tK) (o_a tQ) M, oM g tK, oM g tQ] ([mW g adM (o_a tK) (o_a tQ) M] ++ [xW g adX (adN 0) (adT 0) (o_a tY) X2, vW g adN N3, gW L4 kd5 nu6 aa7, vW g adT T, oV g tY, pW g LR so rn ri rl, oM g tK, oM g tQ]) := b_perm [6] [0, 1, 2, 3, 4, 5, 7, 8] 9 rfl rfl rfl rfl
  refine b_call0 ⟨rfl, rfl⟩ (va_runV (As := [.int (xs (n + 1)), .int (xs (n + 2)), .int (xs (n + 3))]) (rest := [.int r1]) ⟨hx, hb, hml, hown, hts⟩ (m_X3_goer l D g H.size adM (o_a tK) (o_a tQ) M (xs (n + 1)) (xs (n + 2)) (xs (n + 3)) r10 M11 hc12) (cwV 3 hts (lw_V q1642 q1643 q1644 q79 q1645) rfl rfl rfl (by decide +kernel) ⟨Nat.le_of_ble_eq_true rfl, Nat.le_of_ble_eq_true rfl⟩) (b_preV (pp := 6) (q := 0) hW hp13 rfl mW_0 rfl) rfl rfl hl.1 rfl (lv_room (Nat.le_of_ble_eq_true rfl)) dL_law_656 ⟨(show (cells + 1) + 0 ≤ 1200384 from by (omega)), (show (slots + 2) + 0 ≤ 5497258 from by (omega))⟩) hW hp13 (fun _ _ H locs hW => ?_)
  have hW : bW D g A s H locs [mW g adM (o_a tK) (o_a tQ) M11, xW g adX (adN 0) (adT 0) (o_a tY) X2, vW g adN N3, gW L4 kd5 nu6 aa7, vW g adT T, oV g tY, pW g LR so rn ri rl, oM g tK, oM g tQ] := hW
  obtain ⟨he14, hf⟩ := q_cs hf; have he14 := of_decide_eq_true he14
  refine lv_icmp_eq (tgt := 1948) hx hb dL_law_659 (by decide) (fun _ => ?_) (fun hne => absurd he14 hne)
  exact kk adN tY tK tQ X2 N3 T L4 kd5 nu6 aa7 LR so rn ri rl M11 _ _ _ _ hf (b_perms (Bs' := [xW g adX (adN 0) (adT 0) (o_a tY) X2, vW g adN N3, vW g adT T, oV g tY, gW L4 kd5 nu6 aa7, pW g LR so rn ri rl, mW g adM (o_a tK) (o_a tQ) M11, oM g tK, oM g tQ]) hW (b_ord [1, 2, 4, 5, 3, 6, 0, 7, 8] 9 rfl rfl rfl)) (by (omega)) (by (omega))
def lf_9 (X : BC) (N : BC) (T : BC) (Yo : Option BC) (L : List Nat) (kd : Nat → Nat) (nu : Nat → Int32) (aa : Nat → Int32) (LR : List Nat) (so : Nat → Nat) (rn : Nat → Nat) (ri : Nat → Nat → Int32) (rl : Nat → Nat → Int64) (M : BC) (Ko : Option BC) (To : Option BC) (x1 : Int32) (x2 : Int32) (x3 : Int32) (post : lwPT) : Prop :=
 q_b3 (f_X0_change X N x1 x2 x3) fun (r1 : Int32) (X2 : BC) (N3 : BC) =>
 q_b2 (f_X3_change M x1 x2 x3) fun (r6 : Int32) (M7 : BC) =>
 q_ck (decide (r1 = r6)) (post X2 N3 T Yo L kd nu aa LR so rn ri rl M7 Ko To)
set_option maxHeartbeats 4000000 in
set_option maxRecDepth 100000 in
theorem lc_9 {p : Program} {l : Launch} {e : Env} {s : State} {m : MethodId} {below : List Frame} {meth : Method} {c : Code} {H : Heap} {locs : List Loc} {cells slots b len n : Nat} {Q : State → Prop} {xs : Nat → Int32} {adX adT adM adN : Nat → Nat} {tY tK tQ : Option ((Nat → Nat) × BC)} {ls : Array Slot} {D : va_G} {g : Nat → ClassId} {A : Nat → Prop} {X N T : BC} {L : List Nat} {kd : Nat → Nat} {nu aa : Nat → Int32} {LR : List Nat} {so rn : Nat → Nat} {ri : Nat → Nat → Int32} {rl : Nat → Nat → Int64} {M : BC} {fu : Nat} {post : lwPT} (C : lwC p l s m b c A ls adX adM len n xs) (hcs : cells + 10000 ≤ 1200384 ∧ slots + 80000 ≤ 5497258) (hW : bW D g A s H locs (lwB g adX adN adT tY adM tK tQ X N T L kd nu aa LR so rn ri rl M)) (hf : lf_9 X N T (tY.map Prod.snd) L kd nu aa LR so rn ri rl M (tK.map Prod.snd) (tQ.map Prod.snd) (xs (n + 1)) (xs (n + 2)) (xs (n + 3)) post) (kk : lwK p l e s m b below meth c D g A adX adT adM ls Q cells slots post) : W p l e room_1 s m #[.ref b] below meth c H locs cells slots Q (F0 m 664 ls []) := by
  have C0 := C
  obtain ⟨hx, hb, hml, hown, hts, hst, -, -, -, -, -, hl⟩ := C0
  rw [lf_9] at hf
  have hW : bW D g A s H locs [xW g adX (adN 0) (adT 0) (o_a tY) X, vW g adN N, vW g adT T, oV g tY, gW L kd nu aa, pW g LR so rn ri rl, mW g adM (o_a tK) (o_a tQ) M, oM g tK, oM g tQ] := hW
  refine lv_aload_n hx hb dL_law_664 rfl (lv_at hl 1 rfl) ?_
  refine lw_arg C hW 1 (K := 1) rfl (by decide) dL_law_665 dL_law_666 dL_law_667 dL_law_668 dL_law_669 ?_
  refine lw_arg C hW 2 (K := 2) rfl (by decide) dL_law_670 dL_law_671 dL_law_672 dL_law_673 dL_law_674 ?_
  refine lw_arg C hW 3 (K := 3) rfl (by decide) dL_law_675 dL_law_676 dL_law_677 dL_law_678 dL_law_679 ?_
  obtain ⟨r1, X2, N3, hc4, hf⟩ := q_b3s hf
  have hp5 : List.Perm (α := va_W) [xW g adX (adN 0) (adT 0) (o_a tY) X, vW g adN N, vW g adT T, oV g tY, gW L kd nu aa, pW g LR so rn ri rl, mW g adM (o_a tK) (o_a tQ) M, oM g tK, oM g tQ] ([xW g adX (adN 0) (adT 0) (o_a tY) X, vW g adN N] ++ [vW g adT T, oV g tY, gW L kd nu aa, pW g LR so rn ri rl, mW g adM (o_a tK) (o_a tQ) M, oM g tK, oM g tQ]) := b_perm [0, 1] [2, 3, 4, 5, 6, 7, 8] 9 rfl rfl rfl rfl
  refine b_call0 ⟨rfl, rfl⟩ (va_runV (As := [.int (xs (n + 1)), .int (xs (n + 2)), .int (xs (n + 3))]) (rest := []) ⟨hx, hb, hml, hown, hts⟩ (m_X0_change l D g H.size adX (o_a tY) adN adT X N (xs (n + 1)) (xs (n + 2)) (xs (n + 3)) r1 X2 N3 hc4) (cwV 3 hts (lw_V q668 q669 q670 q76 q671) rfl rfl rfl (by decide +kernel) ⟨Nat.le_of_ble_eq_true rfl, Nat.le_of_ble_eq_true rfl⟩) (b_preV (pp := 0) (q := 0) hW hp5 rfl xW_0 rfl) rfl rfl hl.1 rfl (lv_room (Nat.le_of_ble_eq_true rfl)) dL_law_680 ⟨(show cells + 0 ≤ 1200384 from by (omega)), (show slots + 0 ≤ 5497258 from by (omega))⟩) hW hp5 (fun _ _ H locs hW => ?_)
  have hW : bW D g A s H locs [xW g adX (adN 0) (adT 0) (o_a tY) X2, vW g adN N3, vW g adT T, oV g tY, gW L kd nu aa, pW g LR so rn ri rl, mW g adM (o_a tK) (o_a tQ) M, oM g tK, oM g tQ] := hW
  refine lv_aload_n hx hb dL_law_683 rfl (lv_at hl 2 rfl) ?_
  refine lw_arg C hW 1 (K := 1) rfl (by decide) dL_law_684 dL_law_685 dL_law_686 dL_law_687 dL_law_688 ?_
  refine lw_arg C hW 2 (K := 2) rfl (by decide) dL_law_689 dL_law_690 dL_law_691 dL_law_692 dL_law_693 ?_
  refine lw_arg C hW 3 (K := 3) rfl (by decide) dL_law_694 dL_law_695 dL_law_696 dL_law_697 dL_law_698 ?_
  obtain ⟨r6, M7, hc8, hf⟩ := q_b2s hf
  have hp9 : List.Perm (α := va_W) [xW g adX (adN 0) (adT 0) (o_a tY) X2, vW g adN N3, vW g adT T, oV g tY, gW L kd nu aa, pW g LR so rn ri rl, mW g adM (o_a tK) (o_a tQ) M, oM g tK, oM g tQ] ([mW g adM (o_a tK) (o_a tQ) M] ++ [xW g adX (adN 0) (adT 0) (o_a tY) X2, vW g adN N3, vW g adT T, oV g tY, gW L kd nu aa, pW g LR so rn ri rl, oM g tK, oM g tQ]) := b_perm [6] [0, 1, 2, 3, 4, 5, 7, 8] 9 rfl rfl rfl rfl
  refine b_call0 ⟨rfl, rfl⟩ (va_runV (As := [.int (xs (n + 1)), .int (xs (n + 2)), .int (xs (n + 3))]) (rest := [.int r1]) ⟨hx, hb, hml, hown, hts⟩ (m_X3_change l D g H.size adM (o_a tK) (o_a tQ) M (xs (n + 1)) (xs (n + 2)) (xs (n + 3)) r6 M7 hc8) (cwV 3 hts (lw_V q1647 q1648 q1649 q79 q1650) rfl rfl rfl (by decide +kernel) ⟨Nat.le_of_ble_eq_true rfl, Nat.le_of_ble_eq_true rfl⟩) (b_preV (pp := 6) (q := 0) hW hp9 rfl mW_0 rfl) rfl rfl hl.1 rfl (lv_room (Nat.le_of_ble_eq_true rfl)) dL_law_699 ⟨(show cells + 0 ≤ 1200384 from by (omega)), (show slots + 0 ≤ 5497258 from by (omega))⟩) hW hp9 (fun _ _ H locs hW => ?_)
  have hW : bW D g A s H locs [mW g adM (o_a tK) (o_a tQ) M7, xW g adX (adN 0) (adT 0) (o_a tY) X2, vW g adN N3, vW g adT T, oV g tY, gW L kd nu aa, pW g LR so rn ri rl, oM g tK, oM g tQ] := hW
  obtain ⟨he10, hf⟩ := q_cs hf; have he10 := of_decide_eq_true he10
  refine lv_icmp_eq (tgt := 1948) hx hb dL_law_702 (by decide) (fun _ => ?_) (fun hne => absurd he10 hne)
  exact kk adN tY tK tQ X2 N3 T L kd nu aa LR so rn ri rl M7 _ _ _ _ hf (b_perms (Bs' := [xW g adX (adN 0) (adT 0) (o_a tY) X2, vW g adN N3, vW g adT T, oV g tY, gW L kd nu aa, pW g LR so rn ri rl, mW g adM (o_a tK) (o_a tQ) M7, oM g tK, oM g tQ]) hW (b_ord [1, 2, 3, 4, 5, 6, 0, 7, 8] 9 rfl rfl rfl)) (by (omega)) (by (omega))
def lf_10 (X : BC) (N : BC) (T : BC) (Yo : Option BC) (L : List Nat) (kd : Nat → Nat) (nu : Nat → Int32) (aa : Nat → Int32) (LR : List Nat) (so : Nat → Nat) (rn : Nat → Nat) (ri : Nat → Nat → Int32) (rl : Nat → Nat → Int64) (M : BC) (Ko : Option BC) (To : Option BC) (x1 : Int32) (x2 : Int32) (post : lwPT) : Prop :=
 q_b3 (f_X0_say X N x1 x2) fun (r1 : Int32) (X2 : BC) (N3 : BC) =>
 q_b2 (f_X3_say M x1 x2) fun (r6 : Int32) (M7 : BC) =>
 q_ck (decide (r1 = r6)) (post X2 N3 T Yo L kd nu aa LR so rn ri rl M7 Ko To)
set_option maxHeartbeats 4000000 in
set_option maxRecDepth 100000 in
theorem lc_10 {p : Program} {l : Launch} {e : Env} {s : State} {m : MethodId} {below : List Frame} {meth : Method} {c : Code} {H : Heap} {locs : List Loc} {cells slots b len n : Nat} {Q : State → Prop} {xs : Nat → Int32} {adX adT adM adN : Nat → Nat} {tY tK tQ : Option ((Nat → Nat) × BC)} {ls : Array Slot} {D : va_G} {g : Nat → ClassId} {A : Nat → Prop} {X N T : BC} {L : List Nat} {kd : Nat → Nat} {nu aa : Nat → Int32} {LR : List Nat} {so rn : Nat → Nat} {ri : Nat → Nat → Int32} {rl : Nat → Nat → Int64} {M : BC} {fu : Nat} {post : lwPT} (C : lwC p l s m b c A ls adX adM len n xs) (hcs : cells + 10000 ≤ 1200384 ∧ slots + 80000 ≤ 5497258) (hW : bW D g A s H locs (lwB g adX adN adT tY adM tK tQ X N T L kd nu aa LR so rn ri rl M)) (hf : lf_10 X N T (tY.map Prod.snd) L kd nu aa LR so rn ri rl M (tK.map Prod.snd) (tQ.map Prod.snd) (xs (n + 1)) (xs (n + 2)) post) (kk : lwK p l e s m b below meth c D g A adX adT adM ls Q cells slots post) : W p l e room_1 s m #[.ref b] below meth c H locs cells slots Q (F0 m 707 ls []) := by
  have C0 := C
  obtain ⟨hx, hb, hml, hown, hts, hst, -, -, -, -, -, hl⟩ := C0
  rw [lf_10] at hf
  have hW : bW D g A s H locs [xW g adX (adN 0) (adT 0) (o_a tY) X, vW g adN N, vW g adT T, oV g tY, gW L kd nu aa, pW g LR so rn ri rl, mW g adM (o_a tK) (o_a tQ) M, oM g tK, oM g tQ] := hW
  refine lv_aload_n hx hb dL_law_707 rfl (lv_at hl 1 rfl) ?_
  refine lw_arg C hW 1 (K := 1) rfl (by decide) dL_law_708 dL_law_709 dL_law_710 dL_law_711 dL_law_712 ?_
  refine lw_arg C hW 2 (K := 2) rfl (by decide) dL_law_713 dL_law_714 dL_law_715 dL_law_716 dL_law_717 ?_
  obtain ⟨r1, X2, N3, hc4, hf⟩ := q_b3s hf
  have hp5 : List.Perm (α := va_W) [xW g adX (adN 0) (adT 0) (o_a tY) X, vW g adN N, vW g adT T, oV g tY, gW L kd nu aa, pW g LR so rn ri rl, mW g adM (o_a tK) (o_a tQ) M, oM g tK, oM g tQ] ([xW g adX (adN 0) (adT 0) (o_a tY) X, vW g adN N] ++ [vW g adT T, oV g tY, gW L kd nu aa, pW g LR so rn ri rl, mW g adM (o_a tK) (o_a tQ) M, oM g tK, oM g tQ]) := b_perm [0, 1] [2, 3, 4, 5, 6, 7, 8] 9 rfl rfl rfl rfl
  refine b_call0 ⟨rfl, rfl⟩ (va_runV (As := [.int (xs (n + 1)), .int (xs (n + 2))]) (rest := []) ⟨hx, hb, hml, hown, hts⟩ (m_X0_say l D g H.size adX (o_a tY) adN adT X N (xs (n + 1)) (xs (n + 2)) r1 X2 N3 hc4) (cwV 2 hts (lw_V q677 q678 q679 q76 q680) rfl rfl rfl (by decide +kernel) ⟨Nat.le_of_ble_eq_true rfl, Nat.le_of_ble_eq_true rfl⟩) (b_preV (pp := 0) (q := 0) hW hp5 rfl xW_0 rfl) rfl rfl hl.1 rfl (lv_room (Nat.le_of_ble_eq_true rfl)) dL_law_718 ⟨(show cells + 0 ≤ 1200384 from by (omega)), (show slots + 0 ≤ 5497258 from by (omega))⟩) hW hp5 (fun _ _ H locs hW => ?_)
  have hW : bW D g A s H locs [xW g adX (adN 0) (adT 0) (o_a tY) X2, vW g adN N3, vW g adT T, oV g tY, gW L kd nu aa, pW g LR so rn ri rl, mW g adM (o_a tK) (o_a tQ) M, oM g tK, oM g tQ] := hW
  refine lv_aload_n hx hb dL_law_721 rfl (lv_at hl 2 rfl) ?_
  refine lw_arg C hW 1 (K := 1) rfl (by decide) dL_law_722 dL_law_723 dL_law_724 dL_law_725 dL_law_726 ?_
  refine lw_arg C hW 2 (K := 2) rfl (by decide) dL_law_727 dL_law_728 dL_law_729 dL_law_730 dL_law_731 ?_
  obtain ⟨r6, M7, hc8, hf⟩ := q_b2s hf
  have hp9 : List.Perm (α := va_W) [xW g adX (adN 0) (adT 0) (o_a tY) X2, vW g adN N3, vW g adT T, oV g tY, gW L kd nu aa, pW g LR so rn ri rl, mW g adM (o_a tK) (o_a tQ) M, oM g tK, oM g tQ] ([mW g adM (o_a tK) (o_a tQ) M] ++ [xW g adX (adN 0) (adT 0) (o_a tY) X2, vW g adN N3, vW g adT T, oV g tY, gW L kd nu aa, pW g LR so rn ri rl, oM g tK, oM g tQ]) := b_perm [6] [0, 1, 2, 3, 4, 5, 7, 8] 9 rfl rfl rfl rfl
  refine b_call0 ⟨rfl, rfl⟩ (va_runV (As := [.int (xs (n + 1)), .int (xs (n + 2))]) (rest := [.int r1]) ⟨hx, hb, hml, hown, hts⟩ (m_X3_say l D g H.size adM (o_a tK) (o_a tQ) M (xs (n + 1)) (xs (n + 2)) r6 M7 hc8) (cwV 2 hts (lw_V q1655 q1656 q1657 q79 q1658) rfl rfl rfl (by decide +kernel) ⟨Nat.le_of_ble_eq_true rfl, Nat.le_of_ble_eq_true rfl⟩) (b_preV (pp := 6) (q := 0) hW hp9 rfl mW_0 rfl) rfl rfl hl.1 rfl (lv_room (Nat.le_of_ble_eq_true rfl)) dL_law_732 ⟨(show cells + 0 ≤ 1200384 from by (omega)), (show slots + 0 ≤ 5497258 from by (omega))⟩) hW hp9 (fun _ _ H locs hW => ?_)
  have hW : bW D g A s H locs [mW g adM (o_a tK) (o_a tQ) M7, xW g adX (adN 0) (adT 0) (o_a tY) X2, vW g adN N3, vW g adT T, oV g tY, gW L kd nu aa, pW g LR so rn ri rl, oM g tK, oM g tQ] := hW
  obtain ⟨he10, hf⟩ := q_cs hf; have he10 := of_decide_eq_true he10
  refine lv_icmp_eq (tgt := 1948) hx hb dL_law_735 (by decide) (fun _ => ?_) (fun hne => absurd he10 hne)
  exact kk adN tY tK tQ X2 N3 T L kd nu aa LR so rn ri rl M7 _ _ _ _ hf (b_perms (Bs' := [xW g adX (adN 0) (adT 0) (o_a tY) X2, vW g adN N3, vW g adT T, oV g tY, gW L kd nu aa, pW g LR so rn ri rl, mW g adM (o_a tK) (o_a tQ) M7, oM g tK, oM g tQ]) hW (b_ord [1, 2, 3, 4, 5, 6, 0, 7, 8] 9 rfl rfl rfl)) (by (omega)) (by (omega))
def lf_11 (fu : Nat) (X : BC) (N : BC) (T : BC) (Yo : Option BC) (L : List Nat) (kd : Nat → Nat) (nu : Nat → Int32) (aa : Nat → Int32) (LR : List Nat) (so : Nat → Nat) (rn : Nat → Nat) (ri : Nat → Nat → Int32) (rl : Nat → Nat → Int64) (M : BC) (Ko : Option BC) (To : Option BC) (x1 : Int32) (post : lwPT) : Prop :=
 q_b3 (f_X0_write fu X N x1) fun (r1 : Int32) (X2 : BC) (N3 : BC) =>
 q_b2 (f_X3_write fu M x1) fun (r6 : Int32) (M7 : BC) =>
 q_ck (decide (r1 = r6)) (post X2 N3 T Yo L kd nu aa LR so rn ri rl M7 Ko To)
set_option maxHeartbeats 4000000 in
set_option maxRecDepth 100000 in
theorem lc_11 {p : Program} {l : Launch} {e : Env} {s : State} {m : MethodId} {below : List Frame} {meth : Method} {c : Code} {H : Heap} {locs : List Loc} {cells slots b len n : Nat} {Q : State → Prop} {xs : Nat → Int32} {adX adT adM adN : Nat → Nat} {tY tK tQ : Option ((Nat → Nat) × BC)} {ls : Array Slot} {D : va_G} {g : Nat → ClassId} {A : Nat → Prop} {X N T : BC} {L : List Nat} {kd : Nat → Nat} {nu aa : Nat → Int32} {LR : List Nat} {so rn : Nat → Nat} {ri : Nat → Nat → Int32} {rl : Nat → Nat → Int64} {M : BC} {fu : Nat} {post : lwPT} (C : lwC p l s m b c A ls adX adM len n xs) (hcs : cells + 10000 ≤ 1200384 ∧ slots + 80000 ≤ 5497258) (hW : bW D g A s H locs (lwB g adX adN adT tY adM tK tQ X N T L kd nu aa LR so rn ri rl M)) (hf : lf_11 fu X N T (tY.map Prod.snd) L kd nu aa LR so rn ri rl M (tK.map Prod.snd) (tQ.map Prod.snd) (xs (n + 1)) post) (kk : lwK p l e s m b below meth c D g A adX adT adM ls Q cells slots post) : W p l e room_1 s m #[.ref b] below meth c H locs cells slots Q (F0 m 740 ls []) := by
  have C0 := C
  obtain ⟨hx, hb, hml, hown, hts, hst, -, -, -, -, -, hl⟩ := C0
  rw [lf_11] at hf
  have hW : bW D g A s H locs [xW g adX (adN 0) (adT 0) (o_a tY) X, vW g adN N, vW g adT T, oV g tY, gW L kd nu aa, pW g LR so rn ri rl, mW g adM (o_a tK) (o_a tQ) M, oM g tK, oM g tQ] := hW
  refine lv_aload_n hx hb dL_law_740 rfl (lv_at hl 1 rfl) ?_
  refine lw_arg C hW 1 (K := 1) rfl (by decide) dL_law_741 dL_law_742 dL_law_743 dL_law_744 dL_law_745 ?_
  obtain ⟨r1, X2, N3, hc4, hf⟩ := q_b3s hf
  have hp5 : List.Perm (α := va_W) [xW g adX (adN 0) (adT 0) (o_a tY) X, vW g adN N, vW g adT T, oV g tY, gW L kd nu aa, pW g LR so rn ri rl, mW g adM (o_a tK) (o_a tQ) M, oM g tK, oM g tQ] ([xW g adX (adN 0) (adT 0) (o_a tY) X, vW g adN N] ++ [vW g adT T, oV g tY, gW L kd nu aa, pW g LR so rn ri rl, mW g adM (o_a tK) (o_a tQ) M, oM g tK, oM g tQ]) := b_perm [0, 1] [2, 3, 4, 5, 6, 7, 8] 9 rfl rfl rfl rfl
  refine b_call0 ⟨rfl, rfl⟩ (va_runV (As := [.int (xs (n + 1))]) (rest := []) ⟨hx, hb, hml, hown, hts⟩ (m_X0_write l D g H.size adX (o_a tY) adN adT fu X N (xs (n + 1)) r1 X2 N3 hc4) (cwV 1 hts (lw_V q681 q682 q683 q76 q684) rfl rfl rfl (by decide +kernel) ⟨Nat.le_of_ble_eq_true rfl, Nat.le_of_ble_eq_true rfl⟩) (b_preV (pp := 0) (q := 0) hW hp5 rfl xW_0 rfl) rfl rfl hl.1 rfl (lv_room (Nat.le_of_ble_eq_true rfl)) dL_law_746 ⟨(show cells + 0 ≤ 1200384 from by (omega)), (show slots + 0 ≤ 5497258 from by (omega))⟩) hW hp5 (fun _ _ H locs hW => ?_)
  have hW : bW D g A s H locs [xW g adX (adN 0) (adT 0) (o_a tY) X2, vW g adN N3, vW g adT T, oV g tY, gW L kd nu aa, pW g LR so rn ri rl, mW g adM (o_a tK) (o_a tQ) M, oM g tK, oM g tQ] := hW
  refine lv_aload_n hx hb dL_law_749 rfl (lv_at hl 2 rfl) ?_
  refine lw_arg C hW 1 (K := 1) rfl (by decide) dL_law_750 dL_law_751 dL_law_752 dL_law_753 dL_law_754 ?_
  obtain ⟨r6, M7, hc8, hf⟩ := q_b2s hf
  have hp9 : List.Perm (α := va_W) [xW g adX (adN 0) (adT 0) (o_a tY) X2, vW g adN N3, vW g adT T, oV g tY, gW L kd nu aa, pW g LR so rn ri rl, mW g adM (o_a tK) (o_a tQ) M, oM g tK, oM g tQ] ([mW g adM (o_a tK) (o_a tQ) M] ++ [xW g adX (adN 0) (adT 0) (o_a tY) X2, vW g adN N3, vW g adT T, oV g tY, gW L kd nu aa, pW g LR so rn ri rl, oM g tK, oM g tQ]) := b_perm [6] [0, 1, 2, 3, 4, 5, 7, 8] 9 rfl rfl rfl rfl
  refine b_call0 ⟨rfl, rfl⟩ (va_runV (As := [.int (xs (n + 1))]) (rest := [.int r1]) ⟨hx, hb, hml, hown, hts⟩ (m_X3_write l D g H.size adM (o_a tK) (o_a tQ) fu M (xs (n + 1)) r6 M7 hc8) (cwV 1 hts (lw_V q1660 q1661 q1662 q79 q1663) rfl rfl rfl (by decide +kernel) ⟨Nat.le_of_ble_eq_true rfl, Nat.le_of_ble_eq_true rfl⟩) (b_preV (pp := 6) (q := 0) hW hp9 rfl mW_0 rfl) rfl rfl hl.1 rfl (lv_room (Nat.le_of_ble_eq_true rfl)) dL_law_755 ⟨(show cells + 0 ≤ 1200384 from by (omega)), (show slots + 0 ≤ 5497258 from by (omega))⟩) hW hp9 (fun _ _ H locs hW => ?_)
  have hW : bW D g A s H locs [mW g adM (o_a tK) (o_a tQ) M7, xW g adX (adN 0) (adT 0) (o_a tY) X2, vW g adN N3, vW g adT T, oV g tY, gW L kd nu aa, pW g LR so rn ri rl, oM g tK, oM g tQ] := hW
  obtain ⟨he10, hf⟩ := q_cs hf; have he10 := of_decide_eq_true he10
  refine lv_icmp_eq (tgt := 1948) hx hb dL_law_758 (by decide) (fun _ => ?_) (fun hne => absurd he10 hne)
  exact kk adN tY tK tQ X2 N3 T L kd nu aa LR so rn ri rl M7 _ _ _ _ hf (b_perms (Bs' := [xW g adX (adN 0) (adT 0) (o_a tY) X2, vW g adN N3, vW g adT T, oV g tY, gW L kd nu aa, pW g LR so rn ri rl, mW g adM (o_a tK) (o_a tQ) M7, oM g tK, oM g tQ]) hW (b_ord [1, 2, 3, 4, 5, 6, 0, 7, 8] 9 rfl rfl rfl)) (by (omega)) (by (omega))
def lf_12 (X : BC) (N : BC) (T : BC) (Yo : Option BC) (L : List Nat) (kd : Nat → Nat) (nu : Nat → Int32) (aa : Nat → Int32) (LR : List Nat) (so : Nat → Nat) (rn : Nat → Nat) (ri : Nat → Nat → Int32) (rl : Nat → Nat → Int64) (M : BC) (Ko : Option BC) (To : Option BC) (x1 : Int32) (x2 : Int32) (post : lwPT) : Prop :=
 q_b3 (f_X0_letter X N x1 x2) fun (r1 : Int32) (X2 : BC) (N3 : BC) =>
 q_b2 (f_X3_letter M x1 x2) fun (r6 : Int32) (M7 : BC) =>
 q_ck (decide (r1 = r6)) (post X2 N3 T Yo L kd nu aa LR so rn ri rl M7 Ko To)
set_option maxHeartbeats 4000000 in
set_option maxRecDepth 100000 in
theorem lc_12 {p : Program} {l : Launch} {e : Env} {s : State} {m : MethodId} {below : List Frame} {meth : Method} {c : Code} {H : Heap} {locs : List Loc} {cells slots b len n : Nat} {Q : State → Prop} {xs : Nat → Int32} {adX adT adM adN : Nat → Nat} {tY tK tQ : Option ((Nat → Nat) × BC)} {ls : Array Slot} {D : va_G} {g : Nat → ClassId} {A : Nat → Prop} {X N T : BC} {L : List Nat} {kd : Nat → Nat} {nu aa : Nat → Int32} {LR : List Nat} {so rn : Nat → Nat} {ri : Nat → Nat → Int32} {rl : Nat → Nat → Int64} {M : BC} {fu : Nat} {post : lwPT} (C : lwC p l s m b c A ls adX adM len n xs) (hcs : cells + 10000 ≤ 1200384 ∧ slots + 80000 ≤ 5497258) (hW : bW D g A s H locs (lwB g adX adN adT tY adM tK tQ X N T L kd nu aa LR so rn ri rl M)) (hf : lf_12 X N T (tY.map Prod.snd) L kd nu aa LR so rn ri rl M (tK.map Prod.snd) (tQ.map Prod.snd) (xs (n + 1)) (xs (n + 2)) post) (kk : lwK p l e s m b below meth c D g A adX adT adM ls Q cells slots post) : W p l e room_1 s m #[.ref b] below meth c H locs cells slots Q (F0 m 763 ls []) := by
  have C0 := C
  obtain ⟨hx, hb, hml, hown, hts, hst, -, -, -, -, -, hl⟩ := C0
  rw [lf_12] at hf
  have hW : bW D g A s H locs [xW g adX (adN 0) (adT 0) (o_a tY) X, vW g adN N, vW g adT T, oV g tY, gW L kd nu aa, pW g LR so rn ri rl, mW g adM (o_a tK) (o_a tQ) M, oM g tK, oM g tQ] := hW
  refine lv_aload_n hx hb dL_law_763 rfl (lv_at hl 1 rfl) ?_
  refine lw_arg C hW 1 (K := 1) rfl (by decide) dL_law_764 dL_law_765 dL_law_766 dL_law_767 dL_law_768 ?_
  refine lw_arg C hW 2 (K := 2) rfl (by decide) dL_law_769 dL_law_770 dL_law_771 dL_law_772 dL_law_773 ?_
  obtain ⟨r1, X2, N3, hc4, hf⟩ := q_b3s hf
  have hp5 : List.Perm (α := va_W) [xW g adX (adN 0) (adT 0) (o_a tY) X, vW g adN N, vW g adT T, oV g tY, gW L kd nu aa, pW g LR so rn ri rl, mW g adM (o_a tK) (o_a tQ) M, oM g tK, oM g tQ] ([xW g adX (adN 0) (adT 0) (o_a tY) X, vW g adN N] ++ [vW g adT T, oV g tY, gW L kd nu aa, pW g LR so rn ri rl, mW g adM (o_a tK) (o_a tQ) M, oM g tK, oM g tQ]) := b_perm [0, 1] [2, 3, 4, 5, 6, 7, 8] 9 rfl rfl rfl rfl
  refine b_call0 ⟨rfl, rfl⟩ (va_runV (As := [.int (xs (n + 1)), .int (xs (n + 2))]) (rest := []) ⟨hx, hb, hml, hown, hts⟩ (m_X0_letter l D g H.size adX (o_a tY) adN adT X N (xs (n + 1)) (xs (n + 2)) r1 X2 N3 hc4) (cwV 2 hts (lw_V q696 q697 q698 q76 q699) rfl rfl rfl (by decide +kernel) ⟨Nat.le_of_ble_eq_true rfl, Nat.le_of_ble_eq_true rfl⟩) (b_preV (pp := 0) (q := 0) hW hp5 rfl xW_0 rfl) rfl rfl hl.1 rfl (lv_room (Nat.le_of_ble_eq_true rfl)) dL_law_774 ⟨(show cells + 0 ≤ 1200384 from by (omega)), (show slots + 0 ≤ 5497258 from by (omega))⟩) hW hp5 (fun _ _ H locs hW => ?_)
  have hW : bW D g A s H locs [xW g adX (adN 0) (adT 0) (o_a tY) X2, vW g adN N3, vW g adT T, oV g tY, gW L kd nu aa, pW g LR so rn ri rl, mW g adM (o_a tK) (o_a tQ) M, oM g tK, oM g tQ] := hW
  refine lv_aload_n hx hb dL_law_777 rfl (lv_at hl 2 rfl) ?_
  refine lw_arg C hW 1 (K := 1) rfl (by decide) dL_law_778 dL_law_779 dL_law_780 dL_law_781 dL_law_782 ?_
  refine lw_arg C hW 2 (K := 2) rfl (by decide) dL_law_783 dL_law_784 dL_law_785 dL_law_786 dL_law_787 ?_
  obtain ⟨r6, M7, hc8, hf⟩ := q_b2s hf
  have hp9 : List.Perm (α := va_W) [xW g adX (adN 0) (adT 0) (o_a tY) X2, vW g adN N3, vW g adT T, oV g tY, gW L kd nu aa, pW g LR so rn ri rl, mW g adM (o_a tK) (o_a tQ) M, oM g tK, oM g tQ] ([mW g adM (o_a tK) (o_a tQ) M] ++ [xW g adX (adN 0) (adT 0) (o_a tY) X2, vW g adN N3, vW g adT T, oV g tY, gW L kd nu aa, pW g LR so rn ri rl, oM g tK, oM g tQ]) := b_perm [6] [0, 1, 2, 3, 4, 5, 7, 8] 9 rfl rfl rfl rfl
  refine b_call0 ⟨rfl, rfl⟩ (va_runV (As := [.int (xs (n + 1)), .int (xs (n + 2))]) (rest := [.int r1]) ⟨hx, hb, hml, hown, hts⟩ (m_X3_letter l D g H.size adM (o_a tK) (o_a tQ) M (xs (n + 1)) (xs (n + 2)) r6 M7 hc8) (cwV 2 hts (lw_V q1672 q1673 q1674 q79 q1675) rfl rfl rfl (by decide +kernel) ⟨Nat.le_of_ble_eq_true rfl, Nat.le_of_ble_eq_true rfl⟩) (b_preV (pp := 6) (q := 0) hW hp9 rfl mW_0 rfl) rfl rfl hl.1 rfl (lv_room (Nat.le_of_ble_eq_true rfl)) dL_law_788 ⟨(show cells + 0 ≤ 1200384 from by (omega)), (show slots + 0 ≤ 5497258 from by (omega))⟩) hW hp9 (fun _ _ H locs hW => ?_)
  have hW : bW D g A s H locs [mW g adM (o_a tK) (o_a tQ) M7, xW g adX (adN 0) (adT 0) (o_a tY) X2, vW g adN N3, vW g adT T, oV g tY, gW L kd nu aa, pW g LR so rn ri rl, oM g tK, oM g tQ] := hW
  obtain ⟨he10, hf⟩ := q_cs hf; have he10 := of_decide_eq_true he10
  refine lv_icmp_eq (tgt := 1948) hx hb dL_law_791 (by decide) (fun _ => ?_) (fun hne => absurd he10 hne)
  exact kk adN tY tK tQ X2 N3 T L kd nu aa LR so rn ri rl M7 _ _ _ _ hf (b_perms (Bs' := [xW g adX (adN 0) (adT 0) (o_a tY) X2, vW g adN N3, vW g adT T, oV g tY, gW L kd nu aa, pW g LR so rn ri rl, mW g adM (o_a tK) (o_a tQ) M7, oM g tK, oM g tQ]) hW (b_ord [1, 2, 3, 4, 5, 6, 0, 7, 8] 9 rfl rfl rfl)) (by (omega)) (by (omega))
def lf_13 (X : BC) (N : BC) (T : BC) (Yo : Option BC) (L : List Nat) (kd : Nat → Nat) (nu : Nat → Int32) (aa : Nat → Int32) (LR : List Nat) (so : Nat → Nat) (rn : Nat → Nat) (ri : Nat → Nat → Int32) (rl : Nat → Nat → Int64) (M : BC) (Ko : Option BC) (To : Option BC) (x1 : Int32) (post : lwPT) : Prop :=
 q_b3 (f_X0_age X N x1) fun (r1 : Int32) (X2 : BC) (N3 : BC) =>
 q_b2 (f_X3_age M x1) fun (r6 : Int32) (M7 : BC) =>
 q_ck (decide (r1 = r6)) (post X2 N3 T Yo L kd nu aa LR so rn ri rl M7 Ko To)
set_option maxHeartbeats 4000000 in
set_option maxRecDepth 100000 in
theorem lc_13 {p : Program} {l : Launch} {e : Env} {s : State} {m : MethodId} {below : List Frame} {meth : Method} {c : Code} {H : Heap} {locs : List Loc} {cells slots b len n : Nat} {Q : State → Prop} {xs : Nat → Int32} {adX adT adM adN : Nat → Nat} {tY tK tQ : Option ((Nat → Nat) × BC)} {ls : Array Slot} {D : va_G} {g : Nat → ClassId} {A : Nat → Prop} {X N T : BC} {L : List Nat} {kd : Nat → Nat} {nu aa : Nat → Int32} {LR : List Nat} {so rn : Nat → Nat} {ri : Nat → Nat → Int32} {rl : Nat → Nat → Int64} {M : BC} {fu : Nat} {post : lwPT} (C : lwC p l s m b c A ls adX adM len n xs) (hcs : cells + 10000 ≤ 1200384 ∧ slots + 80000 ≤ 5497258) (hW : bW D g A s H locs (lwB g adX adN adT tY adM tK tQ X N T L kd nu aa LR so rn ri rl M)) (hf : lf_13 X N T (tY.map Prod.snd) L kd nu aa LR so rn ri rl M (tK.map Prod.snd) (tQ.map Prod.snd) (xs (n + 1)) post) (kk : lwK p l e s m b below meth c D g A adX adT adM ls Q cells slots post) : W p l e room_1 s m #[.ref b] below meth c H locs cells slots Q (F0 m 796 ls []) := by
  have C0 := C
  obtain ⟨hx, hb, hml, hown, hts, hst, -, -, -, -, -, hl⟩ := C0
  rw [lf_13] at hf
  have hW : bW D g A s H locs [xW g adX (adN 0) (adT 0) (o_a tY) X, vW g adN N, vW g adT T, oV g tY, gW L kd nu aa, pW g LR so rn ri rl, mW g adM (o_a tK) (o_a tQ) M, oM g tK, oM g tQ] := hW
  refine lv_aload_n hx hb dL_law_796 rfl (lv_at hl 1 rfl) ?_
  refine lw_arg C hW 1 (K := 1) rfl (by decide) dL_law_797 dL_law_798 dL_law_799 dL_law_800 dL_law_801 ?_
  obtain ⟨r1, X2, N3, hc4, hf⟩ := q_b3s hf
  have hp5 : List.Perm (α := va_W) [xW g adX (adN 0) (adT 0) (o_a tY) X, vW g adN N, vW g adT T, oV g tY, gW L kd nu aa, pW g LR so rn ri rl, mW g adM (o_a tK) (o_a tQ) M, oM g tK, oM g tQ] ([xW g adX (adN 0) (adT 0) (o_a tY) X, vW g adN N] ++ [vW g adT T, oV g tY, gW L kd nu aa, pW g LR so rn ri rl, mW g adM (o_a tK) (o_a tQ) M, oM g tK, oM g tQ]) := b_perm [0, 1] [2, 3, 4, 5, 6, 7, 8] 9 rfl rfl rfl rfl
  refine b_call0 ⟨rfl, rfl⟩ (va_runV (As := [.int (xs (n + 1))]) (rest := []) ⟨hx, hb, hml, hown, hts⟩ (m_X0_age l D g H.size adX (o_a tY) adN adT X N (xs (n + 1)) r1 X2 N3 hc4) (cwV 1 hts (lw_V q704 q705 q706 q76 q707) rfl rfl rfl (by decide +kernel) ⟨Nat.le_of_ble_eq_true rfl, Nat.le_of_ble_eq_true rfl⟩) (b_preV (pp := 0) (q := 0) hW hp5 rfl xW_0 rfl) rfl rfl hl.1 rfl (lv_room (Nat.le_of_ble_eq_true rfl)) dL_law_802 ⟨(show cells + 0 ≤ 1200384 from by (omega)), (show slots + 0 ≤ 5497258 from by (omega))⟩) hW hp5 (fun _ _ H locs hW => ?_)
  have hW : bW D g A s H locs [xW g adX (adN 0) (adT 0) (o_a tY) X2, vW g adN N3, vW g adT T, oV g tY, gW L kd nu aa, pW g LR so rn ri rl, mW g adM (o_a tK) (o_a tQ) M, oM g tK, oM g tQ] := hW
  refine lv_aload_n hx hb dL_law_805 rfl (lv_at hl 2 rfl) ?_
  refine lw_arg C hW 1 (K := 1) rfl (by decide) dL_law_806 dL_law_807 dL_law_808 dL_law_809 dL_law_810 ?_
  obtain ⟨r6, M7, hc8, hf⟩ := q_b2s hf
  have hp9 : List.Perm (α := va_W) [xW g adX (adN 0) (adT 0) (o_a tY) X2, vW g adN N3, vW g adT T, oV g tY, gW L kd nu aa, pW g LR so rn ri rl, mW g adM (o_a tK) (o_a tQ) M, oM g tK, oM g tQ] ([mW g adM (o_a tK) (o_a tQ) M] ++ [xW g adX (adN 0) (adT 0) (o_a tY) X2, vW g adN N3, vW g adT T, oV g tY, gW L kd nu aa, pW g LR so rn ri rl, oM g tK, oM g tQ]) := b_perm [6] [0, 1, 2, 3, 4, 5, 7, 8] 9 rfl rfl rfl rfl
  refine b_call0 ⟨rfl, rfl⟩ (va_runV (As := [.int (xs (n + 1))]) (rest := [.int r1]) ⟨hx, hb, hml, hown, hts⟩ (m_X3_age l D g H.size adM (o_a tK) (o_a tQ) M (xs (n + 1)) r6 M7 hc8) (cwV 1 hts (lw_V q1680 q1681 q1682 q79 q1683) rfl rfl rfl (by decide +kernel) ⟨Nat.le_of_ble_eq_true rfl, Nat.le_of_ble_eq_true rfl⟩) (b_preV (pp := 6) (q := 0) hW hp9 rfl mW_0 rfl) rfl rfl hl.1 rfl (lv_room (Nat.le_of_ble_eq_true rfl)) dL_law_811 ⟨(show cells + 0 ≤ 1200384 from by (omega)), (show slots + 0 ≤ 5497258 from by (omega))⟩) hW hp9 (fun _ _ H locs hW => ?_)
  have hW : bW D g A s H locs [mW g adM (o_a tK) (o_a tQ) M7, xW g adX (adN 0) (adT 0) (o_a tY) X2, vW g adN N3, vW g adT T, oV g tY, gW L kd nu aa, pW g LR so rn ri rl, oM g tK, oM g tQ] := hW
  obtain ⟨he10, hf⟩ := q_cs hf; have he10 := of_decide_eq_true he10
  refine lv_icmp_eq (tgt := 1948) hx hb dL_law_814 (by decide) (fun _ => ?_) (fun hne => absurd he10 hne)
  exact kk adN tY tK tQ X2 N3 T L kd nu aa LR so rn ri rl M7 _ _ _ _ hf (b_perms (Bs' := [xW g adX (adN 0) (adT 0) (o_a tY) X2, vW g adN N3, vW g adT T, oV g tY, gW L kd nu aa, pW g LR so rn ri rl, mW g adM (o_a tK) (o_a tQ) M7, oM g tK, oM g tQ]) hW (b_ord [1, 2, 3, 4, 5, 6, 0, 7, 8] 9 rfl rfl rfl)) (by (omega)) (by (omega))
def lf_14 (X : BC) (N : BC) (T : BC) (Yo : Option BC) (L : List Nat) (kd : Nat → Nat) (nu : Nat → Int32) (aa : Nat → Int32) (LR : List Nat) (so : Nat → Nat) (rn : Nat → Nat) (ri : Nat → Nat → Int32) (rl : Nat → Nat → Int64) (M : BC) (Ko : Option BC) (To : Option BC) (x1 : Int32) (x2 : Int32) (post : lwPT) : Prop :=
 q_b3 (f_X0_heads X N x1 x2) fun (r1 : Int32) (X2 : BC) (N3 : BC) =>
 q_b2 (f_X3_heads M x1 x2) fun (r6 : Int32) (M7 : BC) =>
 q_ck (decide (r1 = r6)) (post X2 N3 T Yo L kd nu aa LR so rn ri rl M7 Ko To)
set_option maxHeartbeats 4000000 in
set_option maxRecDepth 100000 in
theorem lc_14 {p : Program} {l : Launch} {e : Env} {s : State} {m : MethodId} {below : List Frame} {meth : Method} {c : Code} {H : Heap} {locs : List Loc} {cells slots b len n : Nat} {Q : State → Prop} {xs : Nat → Int32} {adX adT adM adN : Nat → Nat} {tY tK tQ : Option ((Nat → Nat) × BC)} {ls : Array Slot} {D : va_G} {g : Nat → ClassId} {A : Nat → Prop} {X N T : BC} {L : List Nat} {kd : Nat → Nat} {nu aa : Nat → Int32} {LR : List Nat} {so rn : Nat → Nat} {ri : Nat → Nat → Int32} {rl : Nat → Nat → Int64} {M : BC} {fu : Nat} {post : lwPT} (C : lwC p l s m b c A ls adX adM len n xs) (hcs : cells + 10000 ≤ 1200384 ∧ slots + 80000 ≤ 5497258) (hW : bW D g A s H locs (lwB g adX adN adT tY adM tK tQ X N T L kd nu aa LR so rn ri rl M)) (hf : lf_14 X N T (tY.map Prod.snd) L kd nu aa LR so rn ri rl M (tK.map Prod.snd) (tQ.map Prod.snd) (xs (n + 1)) (xs (n + 2)) post) (kk : lwK p l e s m b below meth c D g A adX adT adM ls Q cells slots post) : W p l e room_1 s m #[.ref b] below meth c H locs cells slots Q (F0 m 819 ls []) := by
  have C0 := C
  obtain ⟨hx, hb, hml, hown, hts, hst, -, -, -, -, -, hl⟩ := C0
  rw [lf_14] at hf
  have hW : bW D g A s H locs [xW g adX (adN 0) (adT 0) (o_a tY) X, vW g adN N, vW g adT T, oV g tY, gW L kd nu aa, pW g LR so rn ri rl, mW g adM (o_a tK) (o_a tQ) M, oM g tK, oM g tQ] := hW
  refine lv_aload_n hx hb dL_law_819 rfl (lv_at hl 1 rfl) ?_
  refine lw_arg C hW 1 (K := 1) rfl (by decide) dL_law_820 dL_law_821 dL_law_822 dL_law_823 dL_law_824 ?_
  refine lw_arg C hW 2 (K := 2) rfl (by decide) dL_law_825 dL_law_826 dL_law_827 dL_law_828 dL_law_829 ?_
  obtain ⟨r1, X2, N3, hc4, hf⟩ := q_b3s hf
  have hp5 : List.Perm (α := va_W) [xW g adX (adN 0) (adT 0) (o_a tY) X, vW g adN N, vW g adT T, oV g tY, gW L kd nu aa, pW g LR so rn ri rl, mW g adM (o_a tK) (o_a tQ) M, oM g tK, oM g tQ] ([xW g adX (adN 0) (adT 0) (o_a tY) X, vW g adN N] ++ [vW g adT T, oV g tY, gW L kd nu aa, pW g LR so rn ri rl, mW g adM (o_a tK) (o_a tQ) M, oM g tK, oM g tQ]) := b_perm [0, 1] [2, 3, 4, 5, 6, 7, 8] 9 rfl rfl rfl rfl
  refine b_call0 ⟨rfl, rfl⟩ (va_runV (As := [.int (xs (n + 1)), .int (xs (n + 2))]) (rest := []) ⟨hx, hb, hml, hown, hts⟩ (m_X0_heads l D g H.size adX (o_a tY) adN adT X N (xs (n + 1)) (xs (n + 2)) r1 X2 N3 hc4) (cwV 2 hts (lw_V q708 q709 q710 q76 q711) rfl rfl rfl (by decide +kernel) ⟨Nat.le_of_ble_eq_true rfl, Nat.le_of_ble_eq_true rfl⟩) (b_preV (pp := 0) (q := 0) hW hp5 rfl xW_0 rfl) rfl rfl hl.1 rfl (lv_room (Nat.le_of_ble_eq_true rfl)) dL_law_830 ⟨(show cells + 0 ≤ 1200384 from by (omega)), (show slots + 0 ≤ 5497258 from by (omega))⟩) hW hp5 (fun _ _ H locs hW => ?_)
  have hW : bW D g A s H locs [xW g adX (adN 0) (adT 0) (o_a tY) X2, vW g adN N3, vW g adT T, oV g tY, gW L kd nu aa, pW g LR so rn ri rl, mW g adM (o_a tK) (o_a tQ) M, oM g tK, oM g tQ] := hW
  refine lv_aload_n hx hb dL_law_833 rfl (lv_at hl 2 rfl) ?_
  refine lw_arg C hW 1 (K := 1) rfl (by decide) dL_law_834 dL_law_835 dL_law_836 dL_law_837 dL_law_838 ?_
  refine lw_arg C hW 2 (K := 2) rfl (by decide) dL_law_839 dL_law_840 dL_law_841 dL_law_842 dL_law_843 ?_
  obtain ⟨r6, M7, hc8, hf⟩ := q_b2s hf
  have hp9 : List.Perm (α := va_W) [xW g adX (adN 0) (adT 0) (o_a tY) X2, vW g adN N3, vW g adT T, oV g tY, gW L kd nu aa, pW g LR so rn ri rl, mW g adM (o_a tK) (o_a tQ) M, oM g tK, oM g tQ] ([mW g adM (o_a tK) (o_a tQ) M] ++ [xW g adX (adN 0) (adT 0) (o_a tY) X2, vW g adN N3, vW g adT T, oV g tY, gW L kd nu aa, pW g LR so rn ri rl, oM g tK, oM g tQ]) := b_perm [6] [0, 1, 2, 3, 4, 5, 7, 8] 9 rfl rfl rfl rfl
  refine b_call0 ⟨rfl, rfl⟩ (va_runV (As := [.int (xs (n + 1)), .int (xs (n + 2))]) (rest := [.int r1]) ⟨hx, hb, hml, hown, hts⟩ (m_X3_heads l D g H.size adM (o_a tK) (o_a tQ) M (xs (n + 1)) (xs (n + 2)) r6 M7 hc8) (cwV 2 hts (lw_V q1684 q1685 q1686 q79 q1687) rfl rfl rfl (by decide +kernel) ⟨Nat.le_of_ble_eq_true rfl, Nat.le_of_ble_eq_true rfl⟩) (b_preV (pp := 6) (q := 0) hW hp9 rfl mW_0 rfl) rfl rfl hl.1 rfl (lv_room (Nat.le_of_ble_eq_true rfl)) dL_law_844 ⟨(show cells + 0 ≤ 1200384 from by (omega)), (show slots + 0 ≤ 5497258 from by (omega))⟩) hW hp9 (fun _ _ H locs hW => ?_)
  have hW : bW D g A s H locs [mW g adM (o_a tK) (o_a tQ) M7, xW g adX (adN 0) (adT 0) (o_a tY) X2, vW g adN N3, vW g adT T, oV g tY, gW L kd nu aa, pW g LR so rn ri rl, oM g tK, oM g tQ] := hW
  obtain ⟨he10, hf⟩ := q_cs hf; have he10 := of_decide_eq_true he10
  refine lv_icmp_eq (tgt := 1948) hx hb dL_law_847 (by decide) (fun _ => ?_) (fun hne => absurd he10 hne)
  exact kk adN tY tK tQ X2 N3 T L kd nu aa LR so rn ri rl M7 _ _ _ _ hf (b_perms (Bs' := [xW g adX (adN 0) (adT 0) (o_a tY) X2, vW g adN N3, vW g adT T, oV g tY, gW L kd nu aa, pW g LR so rn ri rl, mW g adM (o_a tK) (o_a tQ) M7, oM g tK, oM g tQ]) hW (b_ord [1, 2, 3, 4, 5, 6, 0, 7, 8] 9 rfl rfl rfl)) (by (omega)) (by (omega))
