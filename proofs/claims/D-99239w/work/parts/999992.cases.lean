set_option maxRecDepth 100000
/-! ===== the law: its cases ===== -/
theorem lw_nz {a b : Nat} (h : a ≤ b) (hb : b ≤ 3 := by omega) (hz : ¬ a = 0) (hq : nI a = 0) : False := by
  have : (nI a).toInt = 0 := by rw [hq]; rfl
  rw [nI_toInt (by omega)] at this
  omega
section LC92
variable {g : nd_G} {d mc ms : Nat} {K : nd_K} {X : nd_X} {h : nd_H} {cs ss : Nat} {L i n : Nat} {xs : Nat → Int32} {S : sy_S}
abbrev lw_lv (i : Nat) : List (Option Value) := [some (nd_f 300), some (.ref 0), some (.ref 101), some (.ref 122), some (.int (nI i)), none, none, none]
theorem lc_0 (hg : nd_OK g) (hd : 1100 ≤ d) (hC : nd_Cx g mL_law X) (hx : sc_X g L xs) (hi : i + 6 ≤ L) (hL : L ≤ 384) (hn : n ≤ 64) (HI : lw_I n S h) (hcs : cs + 2000 ≤ mc) (hss : ss + 81000 ≤ ms) (k : ∀ S2 h2, lw_I (n + 1) S2 h2 → nd_W g mL_law d mc ms K X 2729 (lw_lv i) [] h2 (cs + 2000) (ss + 81000)) : nd_W g mL_law d mc ms K X 248 (lw_lv i) [] h cs ss := by
  obtain ⟨hS, hI, hl, ⟨ov, hov⟩, A, F, B, hM, hW⟩ := id HI
  obtain ⟨⟨x0, hO⟩, -⟩ : (∃ x, cx_O h (nI (sy_b S).length) (nI (sy_fk S)) (sy_fp S) x) ∧ True := by
    obtain ⟨-, o, nap, ds, gi, dss, hK⟩ := hI
    exact ⟨hK.1, trivial⟩
  unfold cx_O at hO
  have hok : sy_ok (op_feed (xs (i + 1)) (xs (i + 2)) (xs (i + 3)) (xs (i + 4)) (xs (i + 5)) S).2.2 := ok_feed hS
  unfold lw_lv
  refine nd_aload_n hC dL_law_248 rfl rfl ?_
  refine nd_aload_n hC dL_law_249 rfl rfl ?_
  refine nd_iload hC dL_law_250 rfl ?_
  refine nd_iconst hC (v := nI 1) (by rfl) dL_law_252 ?_
  first | with_reducible refine nd_iaddN hC dL_law_253 ?_ | refine nd_iadd hC dL_law_253 ?_
  refine nd_sald (j := i + 1) hC hx (by omega) (by omega) dL_law_254 ?_
  refine nd_aload_n hC dL_law_255 rfl rfl ?_
  refine nd_iload hC dL_law_256 rfl ?_
  refine nd_iconst hC (v := nI 2) (by rfl) dL_law_258 ?_
  first | with_reducible refine nd_iaddN hC dL_law_259 ?_ | refine nd_iadd hC dL_law_259 ?_
  refine nd_sald (j := i + 2) hC hx (by omega) (by omega) dL_law_260 ?_
  refine nd_aload_n hC dL_law_261 rfl rfl ?_
  refine nd_iload hC dL_law_262 rfl ?_
  refine nd_iconst hC (v := nI 3) (by rfl) dL_law_264 ?_
  first | with_reducible refine nd_iaddN hC dL_law_265 ?_ | refine nd_iadd hC dL_law_265 ?_
  refine nd_sald (j := i + 3) hC hx (by omega) (by omega) dL_law_266 ?_
  refine nd_aload_n hC dL_law_267 rfl rfl ?_
  refine nd_iload hC dL_law_268 rfl ?_
  refine nd_iconst hC (v := nI 4) (by rfl) dL_law_270 ?_
  first | with_reducible refine nd_iaddN hC dL_law_271 ?_ | refine nd_iadd hC dL_law_271 ?_
  refine nd_sald (j := i + 4) hC hx (by omega) (by omega) dL_law_272 ?_
  refine nd_aload_n hC dL_law_273 rfl rfl ?_
  refine nd_iload hC dL_law_274 rfl ?_
  refine nd_iconst hC (v := nI 5) (by rfl) dL_law_276 ?_
  first | with_reducible refine nd_iaddN hC dL_law_277 ?_ | refine nd_iadd hC dL_law_277 ?_
  refine nd_sald (j := i + 5) hC hx (by omega) (by omega) dL_law_278 ?_
  have hz : (op_feed (xs (i + 1)) (xs (i + 2)) (xs (i + 3)) (xs (i + 4)) (xs (i + 5)) S).1 = 0 := by
    unfold op_feed
    repeat' split
    all_goals rfl
  refine nd_callV (mm2 := mX1_feed) (As := [_, _, _, _, _]) (mc2 := 2) (ms2 := 12) (d2 := d - 1) hC rfl lkL_140 ⟨rfl, lmX1_feed⟩ (hO) rfl (Nat.le_of_ble_eq_true rfl) (by omega) rfl (by exact Nat.le_of_ble_eq_true rfl) (by omega) (by omega) dL_law_279 rfl ((cp_feed hg (by omega) (xs (i + 1)) (xs (i + 2)) (xs (i + 3)) (xs (i + 4)) (xs (i + 5)) S h _ hS hI hl (fun e0 h2 I2 f2 => ?_) (fun e0 => absurd hz e0)))
  have W2 : mo_W h2 A F B h2 := hW.re (fun a z1 z2 => f2.2 a z1 (by omega))
  refine nd_aload_n hC dL_law_282 rfl rfl ?_
  refine nd_aload_n hC dL_law_283 rfl rfl ?_
  refine nd_iload hC dL_law_284 rfl ?_
  refine nd_iconst hC (v := nI 1) (by rfl) dL_law_286 ?_
  first | with_reducible refine nd_iaddN hC dL_law_287 ?_ | refine nd_iadd hC dL_law_287 ?_
  refine nd_sald (j := i + 1) hC hx (by omega) (by omega) dL_law_288 ?_
  refine nd_aload_n hC dL_law_289 rfl rfl ?_
  refine nd_iload hC dL_law_290 rfl ?_
  refine nd_iconst hC (v := nI 2) (by rfl) dL_law_292 ?_
  first | with_reducible refine nd_iaddN hC dL_law_293 ?_ | refine nd_iadd hC dL_law_293 ?_
  refine nd_sald (j := i + 2) hC hx (by omega) (by omega) dL_law_294 ?_
  refine nd_aload_n hC dL_law_295 rfl rfl ?_
  refine nd_iload hC dL_law_296 rfl ?_
  refine nd_iconst hC (v := nI 3) (by rfl) dL_law_298 ?_
  first | with_reducible refine nd_iaddN hC dL_law_299 ?_ | refine nd_iadd hC dL_law_299 ?_
  refine nd_sald (j := i + 3) hC hx (by omega) (by omega) dL_law_300 ?_
  refine nd_aload_n hC dL_law_301 rfl rfl ?_
  refine nd_iload hC dL_law_302 rfl ?_
  refine nd_iconst hC (v := nI 4) (by rfl) dL_law_304 ?_
  first | with_reducible refine nd_iaddN hC dL_law_305 ?_ | refine nd_iadd hC dL_law_305 ?_
  refine nd_sald (j := i + 4) hC hx (by omega) (by omega) dL_law_306 ?_
  refine nd_aload_n hC dL_law_307 rfl rfl ?_
  refine nd_iload hC dL_law_308 rfl ?_
  refine nd_iconst hC (v := nI 5) (by rfl) dL_law_310 ?_
  first | with_reducible refine nd_iaddN hC dL_law_311 ?_ | refine nd_iadd hC dL_law_311 ?_
  refine nd_sald (j := i + 5) hC hx (by omega) (by omega) dL_law_312 ?_
  refine nd_callV (mm2 := mX7_feed) (As := [_, _, _, _, _]) (mc2 := 0) (ms2 := 0) (d2 := d - 1) hC rfl lkL_144 ⟨rfl, lmX7_feed⟩ (W2.2.1) rfl (Nat.le_of_ble_eq_true rfl) (by omega) rfl (by exact Nat.le_of_ble_eq_true rfl) (by omega) (by omega) dL_law_313 rfl ((mp_feed (h0 := h2) hg (xs (i + 1)) (xs (i + 2)) (xs (i + 3)) (xs (i + 4)) (xs (i + 5)) (4 * n) S A F B h2 _ (by omega) hM hS W2 (fun A2 F2 B2 h3 M3 e4 W3 => ?_)))
  refine nd_icmp_eq hC (tgt := 2729) dL_law_316 (by decide) (fun _ => ?_) (fun hq => absurd rfl hq)
  refine nd_widen (by omega) (by omega) (k (op_feed (xs (i + 1)) (xs (i + 2)) (xs (i + 3)) (xs (i + 4)) (xs (i + 5)) S).2.2 h3 ⟨hok, I2.o101 W3.1.1 (fun a z => W3.1.2 a (by omega)), by rw [W3.1.1]; have := f2.1; omega, ⟨ov, (W3.1.2 122 (by omega)).trans ((f2.2 122 (by omega) (by omega)).trans hov)⟩, A2, F2, B2, M3, W3.re (fun _ _ _ => rfl)⟩)
theorem lc_1 (hg : nd_OK g) (hd : 1100 ≤ d) (hC : nd_Cx g mL_law X) (hx : sc_X g L xs) (hi : i + 6 ≤ L) (hL : L ≤ 384) (hn : n ≤ 64) (HI : lw_I n S h) (hcs : cs + 2000 ≤ mc) (hss : ss + 81000 ≤ ms) (k : ∀ S2 h2, lw_I (n + 1) S2 h2 → nd_W g mL_law d mc ms K X 2729 (lw_lv i) [] h2 (cs + 2000) (ss + 81000)) : nd_W g mL_law d mc ms K X 321 (lw_lv i) [] h cs ss := by
  obtain ⟨hS, hI, hl, ⟨ov, hov⟩, A, F, B, hM, hW⟩ := id HI
  obtain ⟨⟨x0, hO⟩, -⟩ : (∃ x, cx_O h (nI (sy_b S).length) (nI (sy_fk S)) (sy_fp S) x) ∧ True := by
    obtain ⟨-, o, nap, ds, gi, dss, hK⟩ := hI
    exact ⟨hK.1, trivial⟩
  unfold cx_O at hO
  have hok : sy_ok (op_napkin (xs (i + 1)) S).2.2 := op_napkin_ok hS
  unfold lw_lv
  refine nd_aload_n hC dL_law_321 rfl rfl ?_
  refine nd_aload_n hC dL_law_322 rfl rfl ?_
  refine nd_iload hC dL_law_323 rfl ?_
  refine nd_iconst hC (v := nI 1) (by rfl) dL_law_325 ?_
  first | with_reducible refine nd_iaddN hC dL_law_326 ?_ | refine nd_iadd hC dL_law_326 ?_
  refine nd_sald (j := i + 1) hC hx (by omega) (by omega) dL_law_327 ?_
  refine nd_aload_n hC dL_law_328 rfl rfl ?_
  refine nd_callSX (mm2 := mX0_napkin) (As := [_, _, _]) (mc2 := 1820) (ms2 := 3700) (d2 := d - 1) hC rfl lkL_145 lmX0_napkin (Nat.le_of_ble_eq_true rfl) (by omega) rfl (by exact Nat.le_of_ble_eq_true rfl) (by omega) (by omega) dL_law_329 rfl ((wx_napkin hg (by omega) (xs (i + 1)) S h _ ov hS hI hl hov (fun h2 ov2 I2 l2 f2 o2 v2 => ?_)))
  have W2 : mo_W h2 A F B h2 := hW.re f2
  have hbd := wb_napkin (xs (i + 1)) S
  refine nd_istore hC dL_law_332 (Nat.le_of_ble_eq_true rfl) ?_
  refine nd_aload_n hC dL_law_334 rfl rfl ?_
  refine nd_aload_n hC dL_law_335 rfl rfl ?_
  refine nd_iload hC dL_law_336 rfl ?_
  refine nd_iconst hC (v := nI 1) (by rfl) dL_law_338 ?_
  first | with_reducible refine nd_iaddN hC dL_law_339 ?_ | refine nd_iadd hC dL_law_339 ?_
  refine nd_sald (j := i + 1) hC hx (by omega) (by omega) dL_law_340 ?_
  refine nd_callV (mm2 := mX7_napkin) (As := [_]) (mc2 := 0) (ms2 := 0) (d2 := d - 1) hC rfl lkL_150 ⟨rfl, lmX7_napkin⟩ (W2.2.1) rfl (Nat.le_of_ble_eq_true rfl) (by omega) rfl (by exact Nat.le_of_ble_eq_true rfl) (by omega) (by omega) dL_law_341 rfl ((mp_napkin (h0 := h2) hg (by omega) (xs (i + 1)) (4 * n) S A F B h2 _ (by omega) hM hS W2 (fun A2 F2 B2 h3 M3 e4 W3 => ?_)))
  refine nd_istore hC dL_law_344 (Nat.le_of_ble_eq_true rfl) ?_
  refine nd_aload_n hC dL_law_346 rfl rfl ?_
  refine nd_callV (mm2 := mX7_thrown) (As := []) (mc2 := 0) (ms2 := 0) (d2 := d - 1) hC rfl lkL_151 ⟨rfl, lmX7_thrown⟩ (W3.2.1) rfl (Nat.le_of_ble_eq_true rfl) (by omega) rfl (by exact Nat.le_of_ble_eq_true rfl) (by omega) (by omega) dL_law_347 rfl ((sp_thrown hg W3 ?_))
  rw [e4]
  refine nd_iload hC dL_law_350 rfl ?_
  refine nd_icmp_eq hC (tgt := 357) dL_law_352 (by decide) (fun _ => ?_) (fun hq => absurd rfl hq)
  have FIN : nd_W g mL_law d mc ms K X 2729 (lw_lv i) [] h3 (cs + 2000) (ss + 81000) := k (op_napkin (xs (i + 1)) S).2.2 h3 ⟨hok, I2.o101 W3.1.1 (fun a z => W3.1.2 a (by omega)), by rw [W3.1.1]; omega, ⟨ov2, (W3.1.2 122 (by omega)).trans o2⟩, A2, F2, B2, M3, W3.re (fun _ _ _ => rfl)⟩
  have h3o := (W3.1.2 122 (by omega)).trans o2
  refine nd_iload hC dL_law_357 rfl ?_
  by_cases hz : (op_napkin (xs (i + 1)) S).1 = 0
  · have v3 : ov2 0 = (op_napkin (xs (i + 1)) S).2.1.toInt64 := v2 hz
    rw [show ((mp_i (op_napkin (xs (i + 1)))) S).1 = 0 from hz]
    refine nd_if_ne hC (tgt := 374) dL_law_359 (by decide) (fun hq => absurd rfl hq) (fun _ => ?_)
    refine nd_aload_n hC dL_law_362 rfl rfl ?_
    refine nd_iconst hC (v := nI 0) (by rfl) dL_law_363 ?_
    refine nd_laloadN hC h3o (by omega) (by omega) dL_law_364 ?_
    refine nd_iload hC dL_law_365 rfl ?_
    first | with_reducible refine nd_i2lN hC (by omega) dL_law_367 ?_ | refine nd_i2l hC dL_law_367 ?_
    refine nd_lcmp_eq hC (tgt := 374) dL_law_368 dL_law_369 (by decide) (fun _ => ?_) (fun hq => absurd v3 hq)
    refine nd_goto hC (tgt := 2729) dL_law_374 (by decide) ?_
    refine nd_drop 5 (nd_drop 6 ?_)
    exact nd_widen (by omega) (by omega) FIN
  · refine nd_if_ne hC (tgt := 374) dL_law_359 (by decide) (fun _ => ?_) (fun hq => absurd (lw_nz hbd (by omega) hz hq) id)
    refine nd_goto hC (tgt := 2729) dL_law_374 (by decide) ?_
    refine nd_drop 5 (nd_drop 6 ?_)
    exact nd_widen (by omega) (by omega) FIN
theorem lc_2 (hg : nd_OK g) (hd : 1100 ≤ d) (hC : nd_Cx g mL_law X) (hx : sc_X g L xs) (hi : i + 6 ≤ L) (hL : L ≤ 384) (hn : n ≤ 64) (HI : lw_I n S h) (hcs : cs + 2000 ≤ mc) (hss : ss + 81000 ≤ ms) (k : ∀ S2 h2, lw_I (n + 1) S2 h2 → nd_W g mL_law d mc ms K X 2729 (lw_lv i) [] h2 (cs + 2000) (ss + 81000)) : nd_W g mL_law d mc ms K X 377 (lw_lv i) [] h cs ss := by
  obtain ⟨hS, hI, hl, ⟨ov, hov⟩, A, F, B, hM, hW⟩ := id HI
  obtain ⟨⟨x0, hO⟩, -⟩ : (∃ x, cx_O h (nI (sy_b S).length) (nI (sy_fk S)) (sy_fp S) x) ∧ True := by
    obtain ⟨-, o, nap, ds, gi, dss, hK⟩ := hI
    exact ⟨hK.1, trivial⟩
  unfold cx_O at hO
  have hok : sy_ok (op_fault (xs (i + 1)) S).2.2 := by
    unfold op_fault
    repeat' split
    all_goals exact hS
  unfold lw_lv
  refine nd_aload_n hC dL_law_377 rfl rfl ?_
  refine nd_aload_n hC dL_law_378 rfl rfl ?_
  refine nd_iload hC dL_law_379 rfl ?_
  refine nd_iconst hC (v := nI 1) (by rfl) dL_law_381 ?_
  first | with_reducible refine nd_iaddN hC dL_law_382 ?_ | refine nd_iadd hC dL_law_382 ?_
  refine nd_sald (j := i + 1) hC hx (by omega) (by omega) dL_law_383 ?_
  have hz : (op_fault (xs (i + 1)) S).1 = 0 := by
    unfold op_fault
    repeat' split
    all_goals rfl
  refine nd_callV (mm2 := mX1_fault) (As := [_]) (mc2 := 2) (ms2 := 12) (d2 := d - 1) hC rfl lkL_154 ⟨rfl, lmX1_fault⟩ (hO) rfl (Nat.le_of_ble_eq_true rfl) (by omega) rfl (by exact Nat.le_of_ble_eq_true rfl) (by omega) (by omega) dL_law_384 rfl ((cp_fault hg (by omega) (xs (i + 1)) S h _ hS hI hl (fun e0 h2 I2 f2 => ?_) (fun e0 => absurd hz e0)))
  have W2 : mo_W h2 A F B h2 := hW.re (fun a z1 z2 => f2.2 a z1 (by omega))
  refine nd_aload_n hC dL_law_387 rfl rfl ?_
  refine nd_aload_n hC dL_law_388 rfl rfl ?_
  refine nd_iload hC dL_law_389 rfl ?_
  refine nd_iconst hC (v := nI 1) (by rfl) dL_law_391 ?_
  first | with_reducible refine nd_iaddN hC dL_law_392 ?_ | refine nd_iadd hC dL_law_392 ?_
  refine nd_sald (j := i + 1) hC hx (by omega) (by omega) dL_law_393 ?_
  refine nd_callV (mm2 := mX7_fault) (As := [_]) (mc2 := 0) (ms2 := 0) (d2 := d - 1) hC rfl lkL_157 ⟨rfl, lmX7_fault⟩ (W2.2.1) rfl (Nat.le_of_ble_eq_true rfl) (by omega) rfl (by exact Nat.le_of_ble_eq_true rfl) (by omega) (by omega) dL_law_394 rfl ((mp_fault (h0 := h2) hg (xs (i + 1)) (4 * n) S A F B h2 _ (by omega) hM hS W2 (fun A2 F2 B2 h3 M3 e4 W3 => ?_)))
  refine nd_icmp_eq hC (tgt := 2729) dL_law_397 (by decide) (fun _ => ?_) (fun hq => absurd rfl hq)
  refine nd_widen (by omega) (by omega) (k (op_fault (xs (i + 1)) S).2.2 h3 ⟨hok, I2.o101 W3.1.1 (fun a z => W3.1.2 a (by omega)), by rw [W3.1.1]; have := f2.1; omega, ⟨ov, (W3.1.2 122 (by omega)).trans ((f2.2 122 (by omega) (by omega)).trans hov)⟩, A2, F2, B2, M3, W3.re (fun _ _ _ => rfl)⟩)
theorem lc_3 (hg : nd_OK g) (hd : 1100 ≤ d) (hC : nd_Cx g mL_law X) (hx : sc_X g L xs) (hi : i + 6 ≤ L) (hL : L ≤ 384) (hn : n ≤ 64) (HI : lw_I n S h) (hcs : cs + 2000 ≤ mc) (hss : ss + 81000 ≤ ms) (k : ∀ S2 h2, lw_I (n + 1) S2 h2 → nd_W g mL_law d mc ms K X 2729 (lw_lv i) [] h2 (cs + 2000) (ss + 81000)) : nd_W g mL_law d mc ms K X 402 (lw_lv i) [] h cs ss := by
  obtain ⟨hS, hI, hl, ⟨ov, hov⟩, A, F, B, hM, hW⟩ := id HI
  obtain ⟨⟨x0, hO⟩, -⟩ : (∃ x, cx_O h (nI (sy_b S).length) (nI (sy_fk S)) (sy_fp S) x) ∧ True := by
    obtain ⟨-, o, nap, ds, gi, dss, hK⟩ := hI
    exact ⟨hK.1, trivial⟩
  unfold cx_O at hO
  have hok : sy_ok (op_cell (xs (i + 1)) (xs (i + 2)) S).2.2 := by
    unfold op_cell
    repeat' split
    all_goals exact hS
  unfold lw_lv
  refine nd_aload_n hC dL_law_402 rfl rfl ?_
  refine nd_aload_n hC dL_law_403 rfl rfl ?_
  refine nd_iload hC dL_law_404 rfl ?_
  refine nd_iconst hC (v := nI 1) (by rfl) dL_law_406 ?_
  first | with_reducible refine nd_iaddN hC dL_law_407 ?_ | refine nd_iadd hC dL_law_407 ?_
  refine nd_sald (j := i + 1) hC hx (by omega) (by omega) dL_law_408 ?_
  refine nd_aload_n hC dL_law_409 rfl rfl ?_
  refine nd_iload hC dL_law_410 rfl ?_
  refine nd_iconst hC (v := nI 2) (by rfl) dL_law_412 ?_
  first | with_reducible refine nd_iaddN hC dL_law_413 ?_ | refine nd_iadd hC dL_law_413 ?_
  refine nd_sald (j := i + 2) hC hx (by omega) (by omega) dL_law_414 ?_
  refine nd_aload_n hC dL_law_415 rfl rfl ?_
  refine nd_callSX (mm2 := mX0_cell) (As := [_, _, _, _]) (mc2 := 2) (ms2 := 12) (d2 := d - 1) hC rfl lkL_158 lmX0_cell (Nat.le_of_ble_eq_true rfl) (by omega) rfl (by exact Nat.le_of_ble_eq_true rfl) (by omega) (by omega) dL_law_416 rfl ((wx_cell hg (by omega) (xs (i + 1)) (xs (i + 2)) S h _ ov hS hI hl hov (fun h2 ov2 I2 l2 f2 o2 v2 => ?_)))
  have W2 : mo_W h2 A F B h2 := hW.re f2
  have hbd := wb_cell (xs (i + 1)) (xs (i + 2)) S
  refine nd_istore hC dL_law_419 (Nat.le_of_ble_eq_true rfl) ?_
  refine nd_aload_n hC dL_law_421 rfl rfl ?_
  refine nd_aload_n hC dL_law_422 rfl rfl ?_
  refine nd_iload hC dL_law_423 rfl ?_
  refine nd_iconst hC (v := nI 1) (by rfl) dL_law_425 ?_
  first | with_reducible refine nd_iaddN hC dL_law_426 ?_ | refine nd_iadd hC dL_law_426 ?_
  refine nd_sald (j := i + 1) hC hx (by omega) (by omega) dL_law_427 ?_
  refine nd_aload_n hC dL_law_428 rfl rfl ?_
  refine nd_iload hC dL_law_429 rfl ?_
  refine nd_iconst hC (v := nI 2) (by rfl) dL_law_431 ?_
  first | with_reducible refine nd_iaddN hC dL_law_432 ?_ | refine nd_iadd hC dL_law_432 ?_
  refine nd_sald (j := i + 2) hC hx (by omega) (by omega) dL_law_433 ?_
  refine nd_callV (mm2 := mX7_cell) (As := [_, _]) (mc2 := 0) (ms2 := 0) (d2 := d - 1) hC rfl lkL_161 ⟨rfl, lmX7_cell⟩ (W2.2.1) rfl (Nat.le_of_ble_eq_true rfl) (by omega) rfl (by exact Nat.le_of_ble_eq_true rfl) (by omega) (by omega) dL_law_434 rfl ((mp_cell (h0 := h2) hg (by omega) (xs (i + 1)) (xs (i + 2)) (4 * n) S A F B h2 _ (by omega) hM hS W2 (fun A2 F2 B2 h3 M3 e4 W3 => ?_)))
  refine nd_istore hC dL_law_437 (Nat.le_of_ble_eq_true rfl) ?_
  refine nd_aload_n hC dL_law_439 rfl rfl ?_
  refine nd_callV (mm2 := mX7_thrown) (As := []) (mc2 := 0) (ms2 := 0) (d2 := d - 1) hC rfl lkL_151 ⟨rfl, lmX7_thrown⟩ (W3.2.1) rfl (Nat.le_of_ble_eq_true rfl) (by omega) rfl (by exact Nat.le_of_ble_eq_true rfl) (by omega) (by omega) dL_law_440 rfl ((sp_thrown hg W3 ?_))
  rw [e4]
  refine nd_iload hC dL_law_443 rfl ?_
  refine nd_icmp_eq hC (tgt := 450) dL_law_445 (by decide) (fun _ => ?_) (fun hq => absurd rfl hq)
  have FIN : nd_W g mL_law d mc ms K X 2729 (lw_lv i) [] h3 (cs + 2000) (ss + 81000) := k (op_cell (xs (i + 1)) (xs (i + 2)) S).2.2 h3 ⟨hok, I2.o101 W3.1.1 (fun a z => W3.1.2 a (by omega)), by rw [W3.1.1]; omega, ⟨ov2, (W3.1.2 122 (by omega)).trans o2⟩, A2, F2, B2, M3, W3.re (fun _ _ _ => rfl)⟩
  have h3o := (W3.1.2 122 (by omega)).trans o2
  refine nd_iload hC dL_law_450 rfl ?_
  by_cases hz : (op_cell (xs (i + 1)) (xs (i + 2)) S).1 = 0
  · have v3 : ov2 0 = (op_cell (xs (i + 1)) (xs (i + 2)) S).2.1.toInt64 := v2 hz
    rw [show ((mp_i (op_cell (xs (i + 1)) (xs (i + 2)))) S).1 = 0 from hz]
    refine nd_if_ne hC (tgt := 467) dL_law_452 (by decide) (fun hq => absurd rfl hq) (fun _ => ?_)
    refine nd_aload_n hC dL_law_455 rfl rfl ?_
    refine nd_iconst hC (v := nI 0) (by rfl) dL_law_456 ?_
    refine nd_laloadN hC h3o (by omega) (by omega) dL_law_457 ?_
    refine nd_iload hC dL_law_458 rfl ?_
    first | with_reducible refine nd_i2lN hC (by omega) dL_law_460 ?_ | refine nd_i2l hC dL_law_460 ?_
    refine nd_lcmp_eq hC (tgt := 467) dL_law_461 dL_law_462 (by decide) (fun _ => ?_) (fun hq => absurd v3 hq)
    refine nd_goto hC (tgt := 2729) dL_law_467 (by decide) ?_
    refine nd_drop 5 (nd_drop 6 ?_)
    exact nd_widen (by omega) (by omega) FIN
  · refine nd_if_ne hC (tgt := 467) dL_law_452 (by decide) (fun _ => ?_) (fun hq => absurd (lw_nz hbd (by omega) hz hq) id)
    refine nd_goto hC (tgt := 2729) dL_law_467 (by decide) ?_
    refine nd_drop 5 (nd_drop 6 ?_)
    exact nd_widen (by omega) (by omega) FIN
theorem lc_4 (hg : nd_OK g) (hd : 1100 ≤ d) (hC : nd_Cx g mL_law X) (hx : sc_X g L xs) (hi : i + 6 ≤ L) (hL : L ≤ 384) (hn : n ≤ 64) (HI : lw_I n S h) (hcs : cs + 2000 ≤ mc) (hss : ss + 81000 ≤ ms) (k : ∀ S2 h2, lw_I (n + 1) S2 h2 → nd_W g mL_law d mc ms K X 2729 (lw_lv i) [] h2 (cs + 2000) (ss + 81000)) : nd_W g mL_law d mc ms K X 470 (lw_lv i) [] h cs ss := by
  obtain ⟨hS, hI, hl, ⟨ov, hov⟩, A, F, B, hM, hW⟩ := id HI
  obtain ⟨⟨x0, hO⟩, -⟩ : (∃ x, cx_O h (nI (sy_b S).length) (nI (sy_fk S)) (sy_fp S) x) ∧ True := by
    obtain ⟨-, o, nap, ds, gi, dss, hK⟩ := hI
    exact ⟨hK.1, trivial⟩
  unfold cx_O at hO
  have hok : sy_ok (op_high (xs (i + 1)) S).2.2 := by
    unfold op_high
    repeat' split
    all_goals exact hS
  unfold lw_lv
  refine nd_aload_n hC dL_law_470 rfl rfl ?_
  refine nd_aload_n hC dL_law_471 rfl rfl ?_
  refine nd_iload hC dL_law_472 rfl ?_
  refine nd_iconst hC (v := nI 1) (by rfl) dL_law_474 ?_
  first | with_reducible refine nd_iaddN hC dL_law_475 ?_ | refine nd_iadd hC dL_law_475 ?_
  refine nd_sald (j := i + 1) hC hx (by omega) (by omega) dL_law_476 ?_
  refine nd_aload_n hC dL_law_477 rfl rfl ?_
  refine nd_callSX (mm2 := mX0_high) (As := [_, _, _]) (mc2 := 2) (ms2 := 12) (d2 := d - 1) hC rfl lkL_162 lmX0_high (Nat.le_of_ble_eq_true rfl) (by omega) rfl (by exact Nat.le_of_ble_eq_true rfl) (by omega) (by omega) dL_law_478 rfl ((wx_high hg (by omega) (xs (i + 1)) S h _ ov hS hI hl hov (fun h2 ov2 I2 l2 f2 o2 v2 => ?_)))
  have W2 : mo_W h2 A F B h2 := hW.re f2
  have hbd := wb_high (xs (i + 1)) S
  refine nd_istore hC dL_law_481 (Nat.le_of_ble_eq_true rfl) ?_
  refine nd_aload_n hC dL_law_483 rfl rfl ?_
  refine nd_aload_n hC dL_law_484 rfl rfl ?_
  refine nd_iload hC dL_law_485 rfl ?_
  refine nd_iconst hC (v := nI 1) (by rfl) dL_law_487 ?_
  first | with_reducible refine nd_iaddN hC dL_law_488 ?_ | refine nd_iadd hC dL_law_488 ?_
  refine nd_sald (j := i + 1) hC hx (by omega) (by omega) dL_law_489 ?_
  refine nd_callV (mm2 := mX7_high) (As := [_]) (mc2 := 0) (ms2 := 0) (d2 := d - 1) hC rfl lkL_164 ⟨rfl, lmX7_high⟩ (W2.2.1) rfl (Nat.le_of_ble_eq_true rfl) (by omega) rfl (by exact Nat.le_of_ble_eq_true rfl) (by omega) (by omega) dL_law_490 rfl ((mp_high (h0 := h2) hg (by omega) (xs (i + 1)) (4 * n) S A F B h2 _ (by omega) hM hS W2 (fun A2 F2 B2 h3 M3 e4 W3 => ?_)))
  refine nd_istore hC dL_law_493 (Nat.le_of_ble_eq_true rfl) ?_
  refine nd_aload_n hC dL_law_495 rfl rfl ?_
  refine nd_callV (mm2 := mX7_thrown) (As := []) (mc2 := 0) (ms2 := 0) (d2 := d - 1) hC rfl lkL_151 ⟨rfl, lmX7_thrown⟩ (W3.2.1) rfl (Nat.le_of_ble_eq_true rfl) (by omega) rfl (by exact Nat.le_of_ble_eq_true rfl) (by omega) (by omega) dL_law_496 rfl ((sp_thrown hg W3 ?_))
  rw [e4]
  refine nd_iload hC dL_law_499 rfl ?_
  refine nd_icmp_eq hC (tgt := 506) dL_law_501 (by decide) (fun _ => ?_) (fun hq => absurd rfl hq)
  have FIN : nd_W g mL_law d mc ms K X 2729 (lw_lv i) [] h3 (cs + 2000) (ss + 81000) := k (op_high (xs (i + 1)) S).2.2 h3 ⟨hok, I2.o101 W3.1.1 (fun a z => W3.1.2 a (by omega)), by rw [W3.1.1]; omega, ⟨ov2, (W3.1.2 122 (by omega)).trans o2⟩, A2, F2, B2, M3, W3.re (fun _ _ _ => rfl)⟩
  have h3o := (W3.1.2 122 (by omega)).trans o2
  refine nd_iload hC dL_law_506 rfl ?_
  by_cases hz : (op_high (xs (i + 1)) S).1 = 0
  · have v3 : ov2 0 = (op_high (xs (i + 1)) S).2.1.toInt64 := v2 hz
    rw [show ((mp_i (op_high (xs (i + 1)))) S).1 = 0 from hz]
    refine nd_if_ne hC (tgt := 523) dL_law_508 (by decide) (fun hq => absurd rfl hq) (fun _ => ?_)
    refine nd_aload_n hC dL_law_511 rfl rfl ?_
    refine nd_iconst hC (v := nI 0) (by rfl) dL_law_512 ?_
    refine nd_laloadN hC h3o (by omega) (by omega) dL_law_513 ?_
    refine nd_iload hC dL_law_514 rfl ?_
    first | with_reducible refine nd_i2lN hC (by omega) dL_law_516 ?_ | refine nd_i2l hC dL_law_516 ?_
    refine nd_lcmp_eq hC (tgt := 523) dL_law_517 dL_law_518 (by decide) (fun _ => ?_) (fun hq => absurd v3 hq)
    refine nd_goto hC (tgt := 2729) dL_law_523 (by decide) ?_
    refine nd_drop 5 (nd_drop 6 ?_)
    exact nd_widen (by omega) (by omega) FIN
  · refine nd_if_ne hC (tgt := 523) dL_law_508 (by decide) (fun _ => ?_) (fun hq => absurd (lw_nz hbd (by omega) hz hq) id)
    refine nd_goto hC (tgt := 2729) dL_law_523 (by decide) ?_
    refine nd_drop 5 (nd_drop 6 ?_)
    exact nd_widen (by omega) (by omega) FIN
theorem lc_5 (hg : nd_OK g) (hd : 1100 ≤ d) (hC : nd_Cx g mL_law X) (hx : sc_X g L xs) (hi : i + 6 ≤ L) (hL : L ≤ 384) (hn : n ≤ 64) (HI : lw_I n S h) (hcs : cs + 2000 ≤ mc) (hss : ss + 81000 ≤ ms) (k : ∀ S2 h2, lw_I (n + 1) S2 h2 → nd_W g mL_law d mc ms K X 2729 (lw_lv i) [] h2 (cs + 2000) (ss + 81000)) : nd_W g mL_law d mc ms K X 526 (lw_lv i) [] h cs ss := by
  obtain ⟨hS, hI, hl, ⟨ov, hov⟩, A, F, B, hM, hW⟩ := id HI
  obtain ⟨⟨x0, hO⟩, -⟩ : (∃ x, cx_O h (nI (sy_b S).length) (nI (sy_fk S)) (sy_fp S) x) ∧ True := by
    obtain ⟨-, o, nap, ds, gi, dss, hK⟩ := hI
    exact ⟨hK.1, trivial⟩
  unfold cx_O at hO
  have hok : sy_ok (op_layer (xs (i + 1)) (xs (i + 2)) S).2.2 := by
    unfold op_layer
    repeat' split
    all_goals exact hS
  unfold lw_lv
  refine nd_aload_n hC dL_law_526 rfl rfl ?_
  refine nd_aload_n hC dL_law_527 rfl rfl ?_
  refine nd_iload hC dL_law_528 rfl ?_
  refine nd_iconst hC (v := nI 1) (by rfl) dL_law_530 ?_
  first | with_reducible refine nd_iaddN hC dL_law_531 ?_ | refine nd_iadd hC dL_law_531 ?_
  refine nd_sald (j := i + 1) hC hx (by omega) (by omega) dL_law_532 ?_
  refine nd_aload_n hC dL_law_533 rfl rfl ?_
  refine nd_iload hC dL_law_534 rfl ?_
  refine nd_iconst hC (v := nI 2) (by rfl) dL_law_536 ?_
  first | with_reducible refine nd_iaddN hC dL_law_537 ?_ | refine nd_iadd hC dL_law_537 ?_
  refine nd_sald (j := i + 2) hC hx (by omega) (by omega) dL_law_538 ?_
  refine nd_aload_n hC dL_law_539 rfl rfl ?_
  refine nd_callSX (mm2 := mX0_layer) (As := [_, _, _, _]) (mc2 := 2) (ms2 := 12) (d2 := d - 1) hC rfl lkL_165 lmX0_layer (Nat.le_of_ble_eq_true rfl) (by omega) rfl (by exact Nat.le_of_ble_eq_true rfl) (by omega) (by omega) dL_law_540 rfl ((wx_layer hg (by omega) (xs (i + 1)) (xs (i + 2)) S h _ ov hS hI hl hov (fun h2 ov2 I2 l2 f2 o2 v2 => ?_)))
  have W2 : mo_W h2 A F B h2 := hW.re f2
  have hbd := wb_layer (xs (i + 1)) (xs (i + 2)) S
  refine nd_istore hC dL_law_543 (Nat.le_of_ble_eq_true rfl) ?_
  refine nd_aload_n hC dL_law_545 rfl rfl ?_
  refine nd_aload_n hC dL_law_546 rfl rfl ?_
  refine nd_iload hC dL_law_547 rfl ?_
  refine nd_iconst hC (v := nI 1) (by rfl) dL_law_549 ?_
  first | with_reducible refine nd_iaddN hC dL_law_550 ?_ | refine nd_iadd hC dL_law_550 ?_
  refine nd_sald (j := i + 1) hC hx (by omega) (by omega) dL_law_551 ?_
  refine nd_aload_n hC dL_law_552 rfl rfl ?_
  refine nd_iload hC dL_law_553 rfl ?_
  refine nd_iconst hC (v := nI 2) (by rfl) dL_law_555 ?_
  first | with_reducible refine nd_iaddN hC dL_law_556 ?_ | refine nd_iadd hC dL_law_556 ?_
  refine nd_sald (j := i + 2) hC hx (by omega) (by omega) dL_law_557 ?_
  refine nd_callV (mm2 := mX7_layer) (As := [_, _]) (mc2 := 0) (ms2 := 0) (d2 := d - 1) hC rfl lkL_167 ⟨rfl, lmX7_layer⟩ (W2.2.1) rfl (Nat.le_of_ble_eq_true rfl) (by omega) rfl (by exact Nat.le_of_ble_eq_true rfl) (by omega) (by omega) dL_law_558 rfl ((mp_layer (h0 := h2) hg (by omega) (xs (i + 1)) (xs (i + 2)) (4 * n) S A F B h2 _ (by omega) hM hS W2 (fun A2 F2 B2 h3 M3 e4 W3 => ?_)))
  refine nd_istore hC dL_law_561 (Nat.le_of_ble_eq_true rfl) ?_
  refine nd_aload_n hC dL_law_563 rfl rfl ?_
  refine nd_callV (mm2 := mX7_thrown) (As := []) (mc2 := 0) (ms2 := 0) (d2 := d - 1) hC rfl lkL_151 ⟨rfl, lmX7_thrown⟩ (W3.2.1) rfl (Nat.le_of_ble_eq_true rfl) (by omega) rfl (by exact Nat.le_of_ble_eq_true rfl) (by omega) (by omega) dL_law_564 rfl ((sp_thrown hg W3 ?_))
  rw [e4]
  refine nd_iload hC dL_law_567 rfl ?_
  refine nd_icmp_eq hC (tgt := 574) dL_law_569 (by decide) (fun _ => ?_) (fun hq => absurd rfl hq)
  have FIN : nd_W g mL_law d mc ms K X 2729 (lw_lv i) [] h3 (cs + 2000) (ss + 81000) := k (op_layer (xs (i + 1)) (xs (i + 2)) S).2.2 h3 ⟨hok, I2.o101 W3.1.1 (fun a z => W3.1.2 a (by omega)), by rw [W3.1.1]; omega, ⟨ov2, (W3.1.2 122 (by omega)).trans o2⟩, A2, F2, B2, M3, W3.re (fun _ _ _ => rfl)⟩
  have h3o := (W3.1.2 122 (by omega)).trans o2
  refine nd_iload hC dL_law_574 rfl ?_
  by_cases hz : (op_layer (xs (i + 1)) (xs (i + 2)) S).1 = 0
  · have v3 : ov2 0 = (op_layer (xs (i + 1)) (xs (i + 2)) S).2.1.toInt64 := v2 hz
    rw [show ((mp_i (op_layer (xs (i + 1)) (xs (i + 2)))) S).1 = 0 from hz]
    refine nd_if_ne hC (tgt := 591) dL_law_576 (by decide) (fun hq => absurd rfl hq) (fun _ => ?_)
    refine nd_aload_n hC dL_law_579 rfl rfl ?_
    refine nd_iconst hC (v := nI 0) (by rfl) dL_law_580 ?_
    refine nd_laloadN hC h3o (by omega) (by omega) dL_law_581 ?_
    refine nd_iload hC dL_law_582 rfl ?_
    first | with_reducible refine nd_i2lN hC (by omega) dL_law_584 ?_ | refine nd_i2l hC dL_law_584 ?_
    refine nd_lcmp_eq hC (tgt := 591) dL_law_585 dL_law_586 (by decide) (fun _ => ?_) (fun hq => absurd v3 hq)
    refine nd_goto hC (tgt := 2729) dL_law_591 (by decide) ?_
    refine nd_drop 5 (nd_drop 6 ?_)
    exact nd_widen (by omega) (by omega) FIN
  · refine nd_if_ne hC (tgt := 591) dL_law_576 (by decide) (fun _ => ?_) (fun hq => absurd (lw_nz hbd (by omega) hz hq) id)
    refine nd_goto hC (tgt := 2729) dL_law_591 (by decide) ?_
    refine nd_drop 5 (nd_drop 6 ?_)
    exact nd_widen (by omega) (by omega) FIN
theorem lc_6 (hg : nd_OK g) (hd : 1100 ≤ d) (hC : nd_Cx g mL_law X) (hx : sc_X g L xs) (hi : i + 6 ≤ L) (hL : L ≤ 384) (hn : n ≤ 64) (HI : lw_I n S h) (hcs : cs + 2000 ≤ mc) (hss : ss + 81000 ≤ ms) (k : ∀ S2 h2, lw_I (n + 1) S2 h2 → nd_W g mL_law d mc ms K X 2729 (lw_lv i) [] h2 (cs + 2000) (ss + 81000)) : nd_W g mL_law d mc ms K X 594 (lw_lv i) [] h cs ss := by
  obtain ⟨hS, hI, hl, ⟨ov, hov⟩, A, F, B, hM, hW⟩ := id HI
  obtain ⟨⟨x0, hO⟩, -⟩ : (∃ x, cx_O h (nI (sy_b S).length) (nI (sy_fk S)) (sy_fp S) x) ∧ True := by
    obtain ⟨-, o, nap, ds, gi, dss, hK⟩ := hI
    exact ⟨hK.1, trivial⟩
  unfold cx_O at hO
  have hok : sy_ok (op_above (xs (i + 1)) S).2.2 := by
    unfold op_above
    repeat' split
    all_goals exact hS
  unfold lw_lv
  refine nd_aload_n hC dL_law_594 rfl rfl ?_
  refine nd_aload_n hC dL_law_595 rfl rfl ?_
  refine nd_iload hC dL_law_596 rfl ?_
  refine nd_iconst hC (v := nI 1) (by rfl) dL_law_598 ?_
  first | with_reducible refine nd_iaddN hC dL_law_599 ?_ | refine nd_iadd hC dL_law_599 ?_
  refine nd_sald (j := i + 1) hC hx (by omega) (by omega) dL_law_600 ?_
  refine nd_aload_n hC dL_law_601 rfl rfl ?_
  refine nd_callSX (mm2 := mX0_above) (As := [_, _, _]) (mc2 := 2) (ms2 := 12) (d2 := d - 1) hC rfl lkL_168 lmX0_above (Nat.le_of_ble_eq_true rfl) (by omega) rfl (by exact Nat.le_of_ble_eq_true rfl) (by omega) (by omega) dL_law_602 rfl ((wx_above hg (by omega) (xs (i + 1)) S h _ ov hS hI hl hov (fun h2 ov2 I2 l2 f2 o2 v2 => ?_)))
  have W2 : mo_W h2 A F B h2 := hW.re f2
  have hbd := wb_above (xs (i + 1)) S
  refine nd_istore hC dL_law_605 (Nat.le_of_ble_eq_true rfl) ?_
  refine nd_aload_n hC dL_law_607 rfl rfl ?_
  refine nd_aload_n hC dL_law_608 rfl rfl ?_
  refine nd_iload hC dL_law_609 rfl ?_
  refine nd_iconst hC (v := nI 1) (by rfl) dL_law_611 ?_
  first | with_reducible refine nd_iaddN hC dL_law_612 ?_ | refine nd_iadd hC dL_law_612 ?_
  refine nd_sald (j := i + 1) hC hx (by omega) (by omega) dL_law_613 ?_
  refine nd_callV (mm2 := mX7_above) (As := [_]) (mc2 := 0) (ms2 := 0) (d2 := d - 1) hC rfl lkL_170 ⟨rfl, lmX7_above⟩ (W2.2.1) rfl (Nat.le_of_ble_eq_true rfl) (by omega) rfl (by exact Nat.le_of_ble_eq_true rfl) (by omega) (by omega) dL_law_614 rfl ((mp_above (h0 := h2) hg (by omega) (xs (i + 1)) (4 * n) S A F B h2 _ (by omega) hM hS W2 (fun A2 F2 B2 h3 M3 e4 W3 => ?_)))
  refine nd_istore hC dL_law_617 (Nat.le_of_ble_eq_true rfl) ?_
  refine nd_aload_n hC dL_law_619 rfl rfl ?_
  refine nd_callV (mm2 := mX7_thrown) (As := []) (mc2 := 0) (ms2 := 0) (d2 := d - 1) hC rfl lkL_151 ⟨rfl, lmX7_thrown⟩ (W3.2.1) rfl (Nat.le_of_ble_eq_true rfl) (by omega) rfl (by exact Nat.le_of_ble_eq_true rfl) (by omega) (by omega) dL_law_620 rfl ((sp_thrown hg W3 ?_))
  rw [e4]
  refine nd_iload hC dL_law_623 rfl ?_
  refine nd_icmp_eq hC (tgt := 630) dL_law_625 (by decide) (fun _ => ?_) (fun hq => absurd rfl hq)
  have FIN : nd_W g mL_law d mc ms K X 2729 (lw_lv i) [] h3 (cs + 2000) (ss + 81000) := k (op_above (xs (i + 1)) S).2.2 h3 ⟨hok, I2.o101 W3.1.1 (fun a z => W3.1.2 a (by omega)), by rw [W3.1.1]; omega, ⟨ov2, (W3.1.2 122 (by omega)).trans o2⟩, A2, F2, B2, M3, W3.re (fun _ _ _ => rfl)⟩
  have h3o := (W3.1.2 122 (by omega)).trans o2
  refine nd_iload hC dL_law_630 rfl ?_
  by_cases hz : (op_above (xs (i + 1)) S).1 = 0
  · have v3 : ov2 0 = (op_above (xs (i + 1)) S).2.1.toInt64 := v2 hz
    rw [show ((mp_i (op_above (xs (i + 1)))) S).1 = 0 from hz]
    refine nd_if_ne hC (tgt := 647) dL_law_632 (by decide) (fun hq => absurd rfl hq) (fun _ => ?_)
    refine nd_aload_n hC dL_law_635 rfl rfl ?_
    refine nd_iconst hC (v := nI 0) (by rfl) dL_law_636 ?_
    refine nd_laloadN hC h3o (by omega) (by omega) dL_law_637 ?_
    refine nd_iload hC dL_law_638 rfl ?_
    first | with_reducible refine nd_i2lN hC (by omega) dL_law_640 ?_ | refine nd_i2l hC dL_law_640 ?_
    refine nd_lcmp_eq hC (tgt := 647) dL_law_641 dL_law_642 (by decide) (fun _ => ?_) (fun hq => absurd v3 hq)
    refine nd_goto hC (tgt := 2729) dL_law_647 (by decide) ?_
    refine nd_drop 5 (nd_drop 6 ?_)
    exact nd_widen (by omega) (by omega) FIN
  · refine nd_if_ne hC (tgt := 647) dL_law_632 (by decide) (fun _ => ?_) (fun hq => absurd (lw_nz hbd (by omega) hz hq) id)
    refine nd_goto hC (tgt := 2729) dL_law_647 (by decide) ?_
    refine nd_drop 5 (nd_drop 6 ?_)
    exact nd_widen (by omega) (by omega) FIN
theorem lc_7 (hg : nd_OK g) (hd : 1100 ≤ d) (hC : nd_Cx g mL_law X) (hx : sc_X g L xs) (hi : i + 6 ≤ L) (hL : L ≤ 384) (hn : n ≤ 64) (HI : lw_I n S h) (hcs : cs + 2000 ≤ mc) (hss : ss + 81000 ≤ ms) (k : ∀ S2 h2, lw_I (n + 1) S2 h2 → nd_W g mL_law d mc ms K X 2729 (lw_lv i) [] h2 (cs + 2000) (ss + 81000)) : nd_W g mL_law d mc ms K X 650 (lw_lv i) [] h cs ss := by
  obtain ⟨hS, hI, hl, ⟨ov, hov⟩, A, F, B, hM, hW⟩ := id HI
  obtain ⟨⟨x0, hO⟩, -⟩ : (∃ x, cx_O h (nI (sy_b S).length) (nI (sy_fk S)) (sy_fp S) x) ∧ True := by
    obtain ⟨-, o, nap, ds, gi, dss, hK⟩ := hI
    exact ⟨hK.1, trivial⟩
  unfold cx_O at hO
  have hok : sy_ok (op_beneath (xs (i + 1)) S).2.2 := by
    unfold op_beneath
    repeat' split
    all_goals exact hS
  unfold lw_lv
  refine nd_aload_n hC dL_law_650 rfl rfl ?_
  refine nd_aload_n hC dL_law_651 rfl rfl ?_
  refine nd_iload hC dL_law_652 rfl ?_
  refine nd_iconst hC (v := nI 1) (by rfl) dL_law_654 ?_
  first | with_reducible refine nd_iaddN hC dL_law_655 ?_ | refine nd_iadd hC dL_law_655 ?_
  refine nd_sald (j := i + 1) hC hx (by omega) (by omega) dL_law_656 ?_
  refine nd_aload_n hC dL_law_657 rfl rfl ?_
  refine nd_callSX (mm2 := mX0_beneath) (As := [_, _, _]) (mc2 := 2) (ms2 := 12) (d2 := d - 1) hC rfl lkL_171 lmX0_beneath (Nat.le_of_ble_eq_true rfl) (by omega) rfl (by exact Nat.le_of_ble_eq_true rfl) (by omega) (by omega) dL_law_658 rfl ((wx_beneath hg (by omega) (xs (i + 1)) S h _ ov hS hI hl hov (fun h2 ov2 I2 l2 f2 o2 v2 => ?_)))
  have W2 : mo_W h2 A F B h2 := hW.re f2
  have hbd := wb_beneath (xs (i + 1)) S
  refine nd_istore hC dL_law_661 (Nat.le_of_ble_eq_true rfl) ?_
  refine nd_aload_n hC dL_law_663 rfl rfl ?_
  refine nd_aload_n hC dL_law_664 rfl rfl ?_
  refine nd_iload hC dL_law_665 rfl ?_
  refine nd_iconst hC (v := nI 1) (by rfl) dL_law_667 ?_
  first | with_reducible refine nd_iaddN hC dL_law_668 ?_ | refine nd_iadd hC dL_law_668 ?_
  refine nd_sald (j := i + 1) hC hx (by omega) (by omega) dL_law_669 ?_
  refine nd_callV (mm2 := mX7_beneath) (As := [_]) (mc2 := 0) (ms2 := 0) (d2 := d - 1) hC rfl lkL_173 ⟨rfl, lmX7_beneath⟩ (W2.2.1) rfl (Nat.le_of_ble_eq_true rfl) (by omega) rfl (by exact Nat.le_of_ble_eq_true rfl) (by omega) (by omega) dL_law_670 rfl ((mp_beneath (h0 := h2) hg (by omega) (xs (i + 1)) (4 * n) S A F B h2 _ (by omega) hM hS W2 (fun A2 F2 B2 h3 M3 e4 W3 => ?_)))
  refine nd_istore hC dL_law_673 (Nat.le_of_ble_eq_true rfl) ?_
  refine nd_aload_n hC dL_law_675 rfl rfl ?_
  refine nd_callV (mm2 := mX7_thrown) (As := []) (mc2 := 0) (ms2 := 0) (d2 := d - 1) hC rfl lkL_151 ⟨rfl, lmX7_thrown⟩ (W3.2.1) rfl (Nat.le_of_ble_eq_true rfl) (by omega) rfl (by exact Nat.le_of_ble_eq_true rfl) (by omega) (by omega) dL_law_676 rfl ((sp_thrown hg W3 ?_))
  rw [e4]
  refine nd_iload hC dL_law_679 rfl ?_
  refine nd_icmp_eq hC (tgt := 686) dL_law_681 (by decide) (fun _ => ?_) (fun hq => absurd rfl hq)
  have FIN : nd_W g mL_law d mc ms K X 2729 (lw_lv i) [] h3 (cs + 2000) (ss + 81000) := k (op_beneath (xs (i + 1)) S).2.2 h3 ⟨hok, I2.o101 W3.1.1 (fun a z => W3.1.2 a (by omega)), by rw [W3.1.1]; omega, ⟨ov2, (W3.1.2 122 (by omega)).trans o2⟩, A2, F2, B2, M3, W3.re (fun _ _ _ => rfl)⟩
  have h3o := (W3.1.2 122 (by omega)).trans o2
  refine nd_iload hC dL_law_686 rfl ?_
  by_cases hz : (op_beneath (xs (i + 1)) S).1 = 0
  · have v3 : ov2 0 = (op_beneath (xs (i + 1)) S).2.1.toInt64 := v2 hz
    rw [show ((mp_i (op_beneath (xs (i + 1)))) S).1 = 0 from hz]
    refine nd_if_ne hC (tgt := 703) dL_law_688 (by decide) (fun hq => absurd rfl hq) (fun _ => ?_)
    refine nd_aload_n hC dL_law_691 rfl rfl ?_
    refine nd_iconst hC (v := nI 0) (by rfl) dL_law_692 ?_
    refine nd_laloadN hC h3o (by omega) (by omega) dL_law_693 ?_
    refine nd_iload hC dL_law_694 rfl ?_
    first | with_reducible refine nd_i2lN hC (by omega) dL_law_696 ?_ | refine nd_i2l hC dL_law_696 ?_
    refine nd_lcmp_eq hC (tgt := 703) dL_law_697 dL_law_698 (by decide) (fun _ => ?_) (fun hq => absurd v3 hq)
    refine nd_goto hC (tgt := 2729) dL_law_703 (by decide) ?_
    refine nd_drop 5 (nd_drop 6 ?_)
    exact nd_widen (by omega) (by omega) FIN
  · refine nd_if_ne hC (tgt := 703) dL_law_688 (by decide) (fun _ => ?_) (fun hq => absurd (lw_nz hbd (by omega) hz hq) id)
    refine nd_goto hC (tgt := 2729) dL_law_703 (by decide) ?_
    refine nd_drop 5 (nd_drop 6 ?_)
    exact nd_widen (by omega) (by omega) FIN
theorem lc_8 (hg : nd_OK g) (hd : 1100 ≤ d) (hC : nd_Cx g mL_law X) (hx : sc_X g L xs) (hi : i + 6 ≤ L) (hL : L ≤ 384) (hn : n ≤ 64) (HI : lw_I n S h) (hcs : cs + 2000 ≤ mc) (hss : ss + 81000 ≤ ms) (k : ∀ S2 h2, lw_I (n + 1) S2 h2 → nd_W g mL_law d mc ms K X 2729 (lw_lv i) [] h2 (cs + 2000) (ss + 81000)) : nd_W g mL_law d mc ms K X 706 (lw_lv i) [] h cs ss := by
  obtain ⟨hS, hI, hl, ⟨ov, hov⟩, A, F, B, hM, hW⟩ := id HI
  obtain ⟨⟨x0, hO⟩, -⟩ : (∃ x, cx_O h (nI (sy_b S).length) (nI (sy_fk S)) (sy_fp S) x) ∧ True := by
    obtain ⟨-, o, nap, ds, gi, dss, hK⟩ := hI
    exact ⟨hK.1, trivial⟩
  unfold cx_O at hO
  have hok : sy_ok (op_crease (xs (i + 1)) S).2.2 := by
    unfold op_crease
    repeat' split
    all_goals exact hS
  unfold lw_lv
  refine nd_aload_n hC dL_law_706 rfl rfl ?_
  refine nd_aload_n hC dL_law_707 rfl rfl ?_
  refine nd_iload hC dL_law_708 rfl ?_
  refine nd_iconst hC (v := nI 1) (by rfl) dL_law_710 ?_
  first | with_reducible refine nd_iaddN hC dL_law_711 ?_ | refine nd_iadd hC dL_law_711 ?_
  refine nd_sald (j := i + 1) hC hx (by omega) (by omega) dL_law_712 ?_
  refine nd_aload_n hC dL_law_713 rfl rfl ?_
  refine nd_callSX (mm2 := mX0_crease) (As := [_, _, _]) (mc2 := 2) (ms2 := 12) (d2 := d - 1) hC rfl lkL_174 lmX0_crease (Nat.le_of_ble_eq_true rfl) (by omega) rfl (by exact Nat.le_of_ble_eq_true rfl) (by omega) (by omega) dL_law_714 rfl ((wx_crease hg (by omega) (xs (i + 1)) S h _ ov hS hI hl hov (fun h2 ov2 I2 l2 f2 o2 v2 => ?_)))
  have W2 : mo_W h2 A F B h2 := hW.re f2
  have hbd := wb_crease (xs (i + 1)) S
  refine nd_istore hC dL_law_717 (Nat.le_of_ble_eq_true rfl) ?_
  refine nd_aload_n hC dL_law_719 rfl rfl ?_
  refine nd_aload_n hC dL_law_720 rfl rfl ?_
  refine nd_iload hC dL_law_721 rfl ?_
  refine nd_iconst hC (v := nI 1) (by rfl) dL_law_723 ?_
  first | with_reducible refine nd_iaddN hC dL_law_724 ?_ | refine nd_iadd hC dL_law_724 ?_
  refine nd_sald (j := i + 1) hC hx (by omega) (by omega) dL_law_725 ?_
  refine nd_callV (mm2 := mX7_crease) (As := [_]) (mc2 := 0) (ms2 := 0) (d2 := d - 1) hC rfl lkL_176 ⟨rfl, lmX7_crease⟩ (W2.2.1) rfl (Nat.le_of_ble_eq_true rfl) (by omega) rfl (by exact Nat.le_of_ble_eq_true rfl) (by omega) (by omega) dL_law_726 rfl ((mp_crease (h0 := h2) hg (by omega) (xs (i + 1)) (4 * n) S A F B h2 _ (by omega) hM hS W2 (fun A2 F2 B2 h3 M3 e4 W3 => ?_)))
  refine nd_istore hC dL_law_729 (Nat.le_of_ble_eq_true rfl) ?_
  refine nd_aload_n hC dL_law_731 rfl rfl ?_
  refine nd_callV (mm2 := mX7_thrown) (As := []) (mc2 := 0) (ms2 := 0) (d2 := d - 1) hC rfl lkL_151 ⟨rfl, lmX7_thrown⟩ (W3.2.1) rfl (Nat.le_of_ble_eq_true rfl) (by omega) rfl (by exact Nat.le_of_ble_eq_true rfl) (by omega) (by omega) dL_law_732 rfl ((sp_thrown hg W3 ?_))
  rw [e4]
  refine nd_iload hC dL_law_735 rfl ?_
  refine nd_icmp_eq hC (tgt := 742) dL_law_737 (by decide) (fun _ => ?_) (fun hq => absurd rfl hq)
  have FIN : nd_W g mL_law d mc ms K X 2729 (lw_lv i) [] h3 (cs + 2000) (ss + 81000) := k (op_crease (xs (i + 1)) S).2.2 h3 ⟨hok, I2.o101 W3.1.1 (fun a z => W3.1.2 a (by omega)), by rw [W3.1.1]; omega, ⟨ov2, (W3.1.2 122 (by omega)).trans o2⟩, A2, F2, B2, M3, W3.re (fun _ _ _ => rfl)⟩
  have h3o := (W3.1.2 122 (by omega)).trans o2
  refine nd_iload hC dL_law_742 rfl ?_
  by_cases hz : (op_crease (xs (i + 1)) S).1 = 0
  · have v3 : ov2 0 = (op_crease (xs (i + 1)) S).2.1.toInt64 := v2 hz
    rw [show ((mp_i (op_crease (xs (i + 1)))) S).1 = 0 from hz]
    refine nd_if_ne hC (tgt := 759) dL_law_744 (by decide) (fun hq => absurd rfl hq) (fun _ => ?_)
    refine nd_aload_n hC dL_law_747 rfl rfl ?_
    refine nd_iconst hC (v := nI 0) (by rfl) dL_law_748 ?_
    refine nd_laloadN hC h3o (by omega) (by omega) dL_law_749 ?_
    refine nd_iload hC dL_law_750 rfl ?_
    first | with_reducible refine nd_i2lN hC (by omega) dL_law_752 ?_ | refine nd_i2l hC dL_law_752 ?_
    refine nd_lcmp_eq hC (tgt := 759) dL_law_753 dL_law_754 (by decide) (fun _ => ?_) (fun hq => absurd v3 hq)
    refine nd_goto hC (tgt := 2729) dL_law_759 (by decide) ?_
    refine nd_drop 5 (nd_drop 6 ?_)
    exact nd_widen (by omega) (by omega) FIN
  · refine nd_if_ne hC (tgt := 759) dL_law_744 (by decide) (fun _ => ?_) (fun hq => absurd (lw_nz hbd (by omega) hz hq) id)
    refine nd_goto hC (tgt := 2729) dL_law_759 (by decide) ?_
    refine nd_drop 5 (nd_drop 6 ?_)
    exact nd_widen (by omega) (by omega) FIN
theorem lc_9 (hg : nd_OK g) (hd : 1100 ≤ d) (hC : nd_Cx g mL_law X) (hx : sc_X g L xs) (hi : i + 6 ≤ L) (hL : L ≤ 384) (hn : n ≤ 64) (HI : lw_I n S h) (hcs : cs + 2000 ≤ mc) (hss : ss + 81000 ≤ ms) (k : ∀ S2 h2, lw_I (n + 1) S2 h2 → nd_W g mL_law d mc ms K X 2729 (lw_lv i) [] h2 (cs + 2000) (ss + 81000)) : nd_W g mL_law d mc ms K X 762 (lw_lv i) [] h cs ss := by
  obtain ⟨hS, hI, hl, ⟨ov, hov⟩, A, F, B, hM, hW⟩ := id HI
  obtain ⟨⟨x0, hO⟩, -⟩ : (∃ x, cx_O h (nI (sy_b S).length) (nI (sy_fk S)) (sy_fp S) x) ∧ True := by
    obtain ⟨-, o, nap, ds, gi, dss, hK⟩ := hI
    exact ⟨hK.1, trivial⟩
  unfold cx_O at hO
  have hok : sy_ok (op_folded (xs (i + 1)) S).2.2 := by
    unfold op_folded
    repeat' split
    all_goals exact hS
  unfold lw_lv
  refine nd_aload_n hC dL_law_762 rfl rfl ?_
  refine nd_aload_n hC dL_law_763 rfl rfl ?_
  refine nd_iload hC dL_law_764 rfl ?_
  refine nd_iconst hC (v := nI 1) (by rfl) dL_law_766 ?_
  first | with_reducible refine nd_iaddN hC dL_law_767 ?_ | refine nd_iadd hC dL_law_767 ?_
  refine nd_sald (j := i + 1) hC hx (by omega) (by omega) dL_law_768 ?_
  refine nd_aload_n hC dL_law_769 rfl rfl ?_
  refine nd_callSX (mm2 := mX0_folded) (As := [_, _, _]) (mc2 := 2) (ms2 := 12) (d2 := d - 1) hC rfl lkL_177 lmX0_folded (Nat.le_of_ble_eq_true rfl) (by omega) rfl (by exact Nat.le_of_ble_eq_true rfl) (by omega) (by omega) dL_law_770 rfl ((wx_folded hg (by omega) (xs (i + 1)) S h _ ov hS hI hl hov (fun h2 ov2 I2 l2 f2 o2 v2 => ?_)))
  have W2 : mo_W h2 A F B h2 := hW.re f2
  have hbd := wb_folded (xs (i + 1)) S
  refine nd_istore hC dL_law_773 (Nat.le_of_ble_eq_true rfl) ?_
  refine nd_aload_n hC dL_law_775 rfl rfl ?_
  refine nd_aload_n hC dL_law_776 rfl rfl ?_
  refine nd_iload hC dL_law_777 rfl ?_
  refine nd_iconst hC (v := nI 1) (by rfl) dL_law_779 ?_
  first | with_reducible refine nd_iaddN hC dL_law_780 ?_ | refine nd_iadd hC dL_law_780 ?_
  refine nd_sald (j := i + 1) hC hx (by omega) (by omega) dL_law_781 ?_
  refine nd_callV (mm2 := mX7_folded) (As := [_]) (mc2 := 0) (ms2 := 0) (d2 := d - 1) hC rfl lkL_179 ⟨rfl, lmX7_folded⟩ (W2.2.1) rfl (Nat.le_of_ble_eq_true rfl) (by omega) rfl (by exact Nat.le_of_ble_eq_true rfl) (by omega) (by omega) dL_law_782 rfl ((mp_folded (h0 := h2) hg (by omega) (xs (i + 1)) (4 * n) S A F B h2 _ (by omega) hM hS W2 (fun A2 F2 B2 h3 M3 e4 W3 => ?_)))
  refine nd_istore hC dL_law_785 (Nat.le_of_ble_eq_true rfl) ?_
  refine nd_aload_n hC dL_law_787 rfl rfl ?_
  refine nd_callV (mm2 := mX7_thrown) (As := []) (mc2 := 0) (ms2 := 0) (d2 := d - 1) hC rfl lkL_151 ⟨rfl, lmX7_thrown⟩ (W3.2.1) rfl (Nat.le_of_ble_eq_true rfl) (by omega) rfl (by exact Nat.le_of_ble_eq_true rfl) (by omega) (by omega) dL_law_788 rfl ((sp_thrown hg W3 ?_))
  rw [e4]
  refine nd_iload hC dL_law_791 rfl ?_
  refine nd_icmp_eq hC (tgt := 798) dL_law_793 (by decide) (fun _ => ?_) (fun hq => absurd rfl hq)
  have FIN : nd_W g mL_law d mc ms K X 2729 (lw_lv i) [] h3 (cs + 2000) (ss + 81000) := k (op_folded (xs (i + 1)) S).2.2 h3 ⟨hok, I2.o101 W3.1.1 (fun a z => W3.1.2 a (by omega)), by rw [W3.1.1]; omega, ⟨ov2, (W3.1.2 122 (by omega)).trans o2⟩, A2, F2, B2, M3, W3.re (fun _ _ _ => rfl)⟩
  have h3o := (W3.1.2 122 (by omega)).trans o2
  refine nd_iload hC dL_law_798 rfl ?_
  by_cases hz : (op_folded (xs (i + 1)) S).1 = 0
  · have v3 : ov2 0 = (op_folded (xs (i + 1)) S).2.1.toInt64 := v2 hz
    rw [show ((mp_i (op_folded (xs (i + 1)))) S).1 = 0 from hz]
    refine nd_if_ne hC (tgt := 815) dL_law_800 (by decide) (fun hq => absurd rfl hq) (fun _ => ?_)
    refine nd_aload_n hC dL_law_803 rfl rfl ?_
    refine nd_iconst hC (v := nI 0) (by rfl) dL_law_804 ?_
    refine nd_laloadN hC h3o (by omega) (by omega) dL_law_805 ?_
    refine nd_iload hC dL_law_806 rfl ?_
    first | with_reducible refine nd_i2lN hC (by omega) dL_law_808 ?_ | refine nd_i2l hC dL_law_808 ?_
    refine nd_lcmp_eq hC (tgt := 815) dL_law_809 dL_law_810 (by decide) (fun _ => ?_) (fun hq => absurd v3 hq)
    refine nd_goto hC (tgt := 2729) dL_law_815 (by decide) ?_
    refine nd_drop 5 (nd_drop 6 ?_)
    exact nd_widen (by omega) (by omega) FIN
  · refine nd_if_ne hC (tgt := 815) dL_law_800 (by decide) (fun _ => ?_) (fun hq => absurd (lw_nz hbd (by omega) hz hq) id)
    refine nd_goto hC (tgt := 2729) dL_law_815 (by decide) ?_
    refine nd_drop 5 (nd_drop 6 ?_)
    exact nd_widen (by omega) (by omega) FIN
theorem lc_10 (hg : nd_OK g) (hd : 1100 ≤ d) (hC : nd_Cx g mL_law X) (hx : sc_X g L xs) (hi : i + 6 ≤ L) (hL : L ≤ 384) (hn : n ≤ 64) (HI : lw_I n S h) (hcs : cs + 2000 ≤ mc) (hss : ss + 81000 ≤ ms) (k : ∀ S2 h2, lw_I (n + 1) S2 h2 → nd_W g mL_law d mc ms K X 2729 (lw_lv i) [] h2 (cs + 2000) (ss + 81000)) : nd_W g mL_law d mc ms K X 818 (lw_lv i) [] h cs ss := by
  obtain ⟨hS, hI, hl, ⟨ov, hov⟩, A, F, B, hM, hW⟩ := id HI
  obtain ⟨⟨x0, hO⟩, -⟩ : (∃ x, cx_O h (nI (sy_b S).length) (nI (sy_fk S)) (sy_fp S) x) ∧ True := by
    obtain ⟨-, o, nap, ds, gi, dss, hK⟩ := hI
    exact ⟨hK.1, trivial⟩
  unfold cx_O at hO
  have hok : sy_ok (op_worth S).2.2 := by
    unfold op_worth
    repeat' split
    all_goals exact hS
  unfold lw_lv
  refine nd_aload_n hC dL_law_818 rfl rfl ?_
  have hz : (op_worth S).1 = 0 := by
    unfold op_worth
    repeat' split
    all_goals rfl
  refine nd_callV (mm2 := mX1_worth) (As := []) (mc2 := 2) (ms2 := 12) (d2 := d - 1) hC rfl lkL_180 ⟨rfl, lmX1_worth⟩ (hO) rfl (Nat.le_of_ble_eq_true rfl) (by omega) rfl (by exact Nat.le_of_ble_eq_true rfl) (by omega) (by omega) dL_law_819 rfl ((cp_worth hg (by omega)  S h _ hS hI hl (fun e0 h2 I2 f2 => ?_) (fun e0 => absurd hz e0)))
  have W2 : mo_W h2 A F B h2 := hW.re (fun a z1 z2 => f2.2 a z1 (by omega))
  refine nd_aload_n hC dL_law_822 rfl rfl ?_
  refine nd_callV (mm2 := mX7_worth) (As := []) (mc2 := 0) (ms2 := 0) (d2 := d - 1) hC rfl lkL_183 ⟨rfl, lmX7_worth⟩ (W2.2.1) rfl (Nat.le_of_ble_eq_true rfl) (by omega) rfl (by exact Nat.le_of_ble_eq_true rfl) (by omega) (by omega) dL_law_823 rfl ((mp_worth (h0 := h2) hg (by omega)  (4 * n) S A F B h2 _ (by omega) hM hS W2 (fun A2 F2 B2 h3 M3 e4 W3 => ?_)))
  refine nd_icmp_eq hC (tgt := 2729) dL_law_826 (by decide) (fun _ => ?_) (fun hq => absurd rfl hq)
  refine nd_widen (by omega) (by omega) (k (op_worth S).2.2 h3 ⟨hok, I2.o101 W3.1.1 (fun a z => W3.1.2 a (by omega)), by rw [W3.1.1]; have := f2.1; omega, ⟨ov, (W3.1.2 122 (by omega)).trans ((f2.2 122 (by omega) (by omega)).trans hov)⟩, A2, F2, B2, M3, W3.re (fun _ _ _ => rfl)⟩)
theorem lc_11 (hg : nd_OK g) (hd : 1100 ≤ d) (hC : nd_Cx g mL_law X) (hx : sc_X g L xs) (hi : i + 6 ≤ L) (hL : L ≤ 384) (hn : n ≤ 64) (HI : lw_I n S h) (hcs : cs + 2000 ≤ mc) (hss : ss + 81000 ≤ ms) (k : ∀ S2 h2, lw_I (n + 1) S2 h2 → nd_W g mL_law d mc ms K X 2729 (lw_lv i) [] h2 (cs + 2000) (ss + 81000)) : nd_W g mL_law d mc ms K X 831 (lw_lv i) [] h cs ss := by
  obtain ⟨hS, hI, hl, ⟨ov, hov⟩, A, F, B, hM, hW⟩ := id HI
  obtain ⟨⟨x0, hO⟩, -⟩ : (∃ x, cx_O h (nI (sy_b S).length) (nI (sy_fk S)) (sy_fp S) x) ∧ True := by
    obtain ⟨-, o, nap, ds, gi, dss, hK⟩ := hI
    exact ⟨hK.1, trivial⟩
  unfold cx_O at hO
  have hok : sy_ok (op_holds S).2.2 := by
    unfold op_holds
    repeat' split
    all_goals exact hS
  unfold lw_lv
  refine nd_aload_n hC dL_law_831 rfl rfl ?_
  have hz : (op_holds S).1 = 0 := by
    unfold op_holds
    repeat' split
    all_goals rfl
  refine nd_callV (mm2 := mX1_holds) (As := []) (mc2 := 2) (ms2 := 12) (d2 := d - 1) hC rfl lkL_184 ⟨rfl, lmX1_holds⟩ (hO) rfl (Nat.le_of_ble_eq_true rfl) (by omega) rfl (by exact Nat.le_of_ble_eq_true rfl) (by omega) (by omega) dL_law_832 rfl ((cp_holds hg (by omega)  S h _ hS hI hl (fun e0 h2 I2 f2 => ?_) (fun e0 => absurd hz e0)))
  have W2 : mo_W h2 A F B h2 := hW.re (fun a z1 z2 => f2.2 a z1 (by omega))
  refine nd_aload_n hC dL_law_835 rfl rfl ?_
  refine nd_callV (mm2 := mX7_holds) (As := []) (mc2 := 0) (ms2 := 0) (d2 := d - 1) hC rfl lkL_188 ⟨rfl, lmX7_holds⟩ (W2.2.1) rfl (Nat.le_of_ble_eq_true rfl) (by omega) rfl (by exact Nat.le_of_ble_eq_true rfl) (by omega) (by omega) dL_law_836 rfl ((mp_holds (h0 := h2) hg (by omega)  (4 * n) S A F B h2 _ (by omega) hM hS W2 (fun A2 F2 B2 h3 M3 e4 W3 => ?_)))
  refine nd_icmp_eq hC (tgt := 2729) dL_law_839 (by decide) (fun _ => ?_) (fun hq => absurd rfl hq)
  refine nd_widen (by omega) (by omega) (k (op_holds S).2.2 h3 ⟨hok, I2.o101 W3.1.1 (fun a z => W3.1.2 a (by omega)), by rw [W3.1.1]; have := f2.1; omega, ⟨ov, (W3.1.2 122 (by omega)).trans ((f2.2 122 (by omega) (by omega)).trans hov)⟩, A2, F2, B2, M3, W3.re (fun _ _ _ => rfl)⟩)
theorem lc_12 (hg : nd_OK g) (hd : 1100 ≤ d) (hC : nd_Cx g mL_law X) (hx : sc_X g L xs) (hi : i + 6 ≤ L) (hL : L ≤ 384) (hn : n ≤ 64) (HI : lw_I n S h) (hcs : cs + 2000 ≤ mc) (hss : ss + 81000 ≤ ms) (k : ∀ S2 h2, lw_I (n + 1) S2 h2 → nd_W g mL_law d mc ms K X 2729 (lw_lv i) [] h2 (cs + 2000) (ss + 81000)) : nd_W g mL_law d mc ms K X 844 (lw_lv i) [] h cs ss := by
  obtain ⟨hS, hI, hl, ⟨ov, hov⟩, A, F, B, hM, hW⟩ := id HI
  obtain ⟨⟨x0, hO⟩, -⟩ : (∃ x, cx_O h (nI (sy_b S).length) (nI (sy_fk S)) (sy_fp S) x) ∧ True := by
    obtain ⟨-, o, nap, ds, gi, dss, hK⟩ := hI
    exact ⟨hK.1, trivial⟩
  unfold cx_O at hO
  have hok : sy_ok (op_likes (xs (i + 1)) S).2.2 := by
    unfold op_likes
    repeat' split
    all_goals exact hS
  unfold lw_lv
  refine nd_aload_n hC dL_law_844 rfl rfl ?_
  refine nd_aload_n hC dL_law_845 rfl rfl ?_
  refine nd_iload hC dL_law_846 rfl ?_
  refine nd_iconst hC (v := nI 1) (by rfl) dL_law_848 ?_
  first | with_reducible refine nd_iaddN hC dL_law_849 ?_ | refine nd_iadd hC dL_law_849 ?_
  refine nd_sald (j := i + 1) hC hx (by omega) (by omega) dL_law_850 ?_
  refine nd_aload_n hC dL_law_851 rfl rfl ?_
  refine nd_callSX (mm2 := mX0_likes) (As := [_, _, _]) (mc2 := 2) (ms2 := 12) (d2 := d - 1) hC rfl lkL_189 lmX0_likes (Nat.le_of_ble_eq_true rfl) (by omega) rfl (by exact Nat.le_of_ble_eq_true rfl) (by omega) (by omega) dL_law_852 rfl ((wx_likes hg (by omega) (xs (i + 1)) S h _ ov hS hI hl hov (fun h2 ov2 I2 l2 f2 o2 v2 => ?_)))
  have W2 : mo_W h2 A F B h2 := hW.re f2
  have hbd := wb_likes (xs (i + 1)) S
  refine nd_istore hC dL_law_855 (Nat.le_of_ble_eq_true rfl) ?_
  refine nd_aload_n hC dL_law_857 rfl rfl ?_
  refine nd_aload_n hC dL_law_858 rfl rfl ?_
  refine nd_iload hC dL_law_859 rfl ?_
  refine nd_iconst hC (v := nI 1) (by rfl) dL_law_861 ?_
  first | with_reducible refine nd_iaddN hC dL_law_862 ?_ | refine nd_iadd hC dL_law_862 ?_
  refine nd_sald (j := i + 1) hC hx (by omega) (by omega) dL_law_863 ?_
  refine nd_callV (mm2 := mX7_likes) (As := [_]) (mc2 := 0) (ms2 := 0) (d2 := d - 1) hC rfl lkL_191 ⟨rfl, lmX7_likes⟩ (W2.2.1) rfl (Nat.le_of_ble_eq_true rfl) (by omega) rfl (by exact Nat.le_of_ble_eq_true rfl) (by omega) (by omega) dL_law_864 rfl ((mp_likes (h0 := h2) hg (by omega) (xs (i + 1)) (4 * n) S A F B h2 _ (by omega) hM hS W2 (fun A2 F2 B2 h3 M3 e4 W3 => ?_)))
  refine nd_istore hC dL_law_867 (Nat.le_of_ble_eq_true rfl) ?_
  refine nd_aload_n hC dL_law_869 rfl rfl ?_
  refine nd_callV (mm2 := mX7_thrown) (As := []) (mc2 := 0) (ms2 := 0) (d2 := d - 1) hC rfl lkL_151 ⟨rfl, lmX7_thrown⟩ (W3.2.1) rfl (Nat.le_of_ble_eq_true rfl) (by omega) rfl (by exact Nat.le_of_ble_eq_true rfl) (by omega) (by omega) dL_law_870 rfl ((sp_thrown hg W3 ?_))
  rw [e4]
  refine nd_iload hC dL_law_873 rfl ?_
  refine nd_icmp_eq hC (tgt := 880) dL_law_875 (by decide) (fun _ => ?_) (fun hq => absurd rfl hq)
  have FIN : nd_W g mL_law d mc ms K X 2729 (lw_lv i) [] h3 (cs + 2000) (ss + 81000) := k (op_likes (xs (i + 1)) S).2.2 h3 ⟨hok, I2.o101 W3.1.1 (fun a z => W3.1.2 a (by omega)), by rw [W3.1.1]; omega, ⟨ov2, (W3.1.2 122 (by omega)).trans o2⟩, A2, F2, B2, M3, W3.re (fun _ _ _ => rfl)⟩
  have h3o := (W3.1.2 122 (by omega)).trans o2
  refine nd_iload hC dL_law_880 rfl ?_
  by_cases hz : (op_likes (xs (i + 1)) S).1 = 0
  · have v3 : ov2 0 = (op_likes (xs (i + 1)) S).2.1.toInt64 := v2 hz
    rw [show ((mp_i (op_likes (xs (i + 1)))) S).1 = 0 from hz]
    refine nd_if_ne hC (tgt := 897) dL_law_882 (by decide) (fun hq => absurd rfl hq) (fun _ => ?_)
    refine nd_aload_n hC dL_law_885 rfl rfl ?_
    refine nd_iconst hC (v := nI 0) (by rfl) dL_law_886 ?_
    refine nd_laloadN hC h3o (by omega) (by omega) dL_law_887 ?_
    refine nd_iload hC dL_law_888 rfl ?_
    first | with_reducible refine nd_i2lN hC (by omega) dL_law_890 ?_ | refine nd_i2l hC dL_law_890 ?_
    refine nd_lcmp_eq hC (tgt := 897) dL_law_891 dL_law_892 (by decide) (fun _ => ?_) (fun hq => absurd v3 hq)
    refine nd_goto hC (tgt := 2729) dL_law_897 (by decide) ?_
    refine nd_drop 5 (nd_drop 6 ?_)
    exact nd_widen (by omega) (by omega) FIN
  · refine nd_if_ne hC (tgt := 897) dL_law_882 (by decide) (fun _ => ?_) (fun hq => absurd (lw_nz hbd (by omega) hz hq) id)
    refine nd_goto hC (tgt := 2729) dL_law_897 (by decide) ?_
    refine nd_drop 5 (nd_drop 6 ?_)
    exact nd_widen (by omega) (by omega) FIN
theorem lc_13 (hg : nd_OK g) (hd : 1100 ≤ d) (hC : nd_Cx g mL_law X) (hx : sc_X g L xs) (hi : i + 6 ≤ L) (hL : L ≤ 384) (hn : n ≤ 64) (HI : lw_I n S h) (hcs : cs + 2000 ≤ mc) (hss : ss + 81000 ≤ ms) (k : ∀ S2 h2, lw_I (n + 1) S2 h2 → nd_W g mL_law d mc ms K X 2729 (lw_lv i) [] h2 (cs + 2000) (ss + 81000)) : nd_W g mL_law d mc ms K X 900 (lw_lv i) [] h cs ss := by
  obtain ⟨hS, hI, hl, ⟨ov, hov⟩, A, F, B, hM, hW⟩ := id HI
  obtain ⟨⟨x0, hO⟩, -⟩ : (∃ x, cx_O h (nI (sy_b S).length) (nI (sy_fk S)) (sy_fp S) x) ∧ True := by
    obtain ⟨-, o, nap, ds, gi, dss, hK⟩ := hI
    exact ⟨hK.1, trivial⟩
  unfold cx_O at hO
  have hok : sy_ok (op_fold (xs (i + 1)) (xs (i + 2)) S).2.2 := ok_fold hS
  unfold lw_lv
  refine nd_aload_n hC dL_law_900 rfl rfl ?_
  refine nd_aload_n hC dL_law_901 rfl rfl ?_
  refine nd_iload hC dL_law_902 rfl ?_
  refine nd_iconst hC (v := nI 1) (by rfl) dL_law_904 ?_
  first | with_reducible refine nd_iaddN hC dL_law_905 ?_ | refine nd_iadd hC dL_law_905 ?_
  refine nd_sald (j := i + 1) hC hx (by omega) (by omega) dL_law_906 ?_
  refine nd_aload_n hC dL_law_907 rfl rfl ?_
  refine nd_iload hC dL_law_908 rfl ?_
  refine nd_iconst hC (v := nI 2) (by rfl) dL_law_910 ?_
  first | with_reducible refine nd_iaddN hC dL_law_911 ?_ | refine nd_iadd hC dL_law_911 ?_
  refine nd_sald (j := i + 2) hC hx (by omega) (by omega) dL_law_912 ?_
  have hz : (op_fold (xs (i + 1)) (xs (i + 2)) S).1 = 0 := by
    unfold op_fold
    repeat' split
    all_goals rfl
  refine nd_callV (mm2 := mX1_fold) (As := [_, _]) (mc2 := 10) (ms2 := 60) (d2 := d - 1) hC rfl lkL_192 ⟨rfl, lmX1_fold⟩ (hO) rfl (Nat.le_of_ble_eq_true rfl) (by omega) rfl (by exact Nat.le_of_ble_eq_true rfl) (by omega) (by omega) dL_law_913 rfl ((cp_fold hg (by omega) (xs (i + 1)) (xs (i + 2)) S h _ hS hI hl (fun e0 h2 I2 f2 => ?_) (fun e0 => absurd hz e0)))
  have W2 : mo_W h2 A F B h2 := hW.re (fun a z1 z2 => f2.2 a z1 (by omega))
  refine nd_aload_n hC dL_law_916 rfl rfl ?_
  refine nd_aload_n hC dL_law_917 rfl rfl ?_
  refine nd_iload hC dL_law_918 rfl ?_
  refine nd_iconst hC (v := nI 1) (by rfl) dL_law_920 ?_
  first | with_reducible refine nd_iaddN hC dL_law_921 ?_ | refine nd_iadd hC dL_law_921 ?_
  refine nd_sald (j := i + 1) hC hx (by omega) (by omega) dL_law_922 ?_
  refine nd_aload_n hC dL_law_923 rfl rfl ?_
  refine nd_iload hC dL_law_924 rfl ?_
  refine nd_iconst hC (v := nI 2) (by rfl) dL_law_926 ?_
  first | with_reducible refine nd_iaddN hC dL_law_927 ?_ | refine nd_iadd hC dL_law_927 ?_
  refine nd_sald (j := i + 2) hC hx (by omega) (by omega) dL_law_928 ?_
  refine nd_callV (mm2 := mX7_fold) (As := [_, _]) (mc2 := 0) (ms2 := 0) (d2 := d - 1) hC rfl lkL_195 ⟨rfl, lmX7_fold⟩ (W2.2.1) rfl (Nat.le_of_ble_eq_true rfl) (by omega) rfl (by exact Nat.le_of_ble_eq_true rfl) (by omega) (by omega) dL_law_929 rfl ((mp_fold (h0 := h2) hg (by omega) (xs (i + 1)) (xs (i + 2)) (4 * n) S A F B h2 _ (by omega) hM hS W2 (fun A2 F2 B2 h3 M3 e4 W3 => ?_)))
  refine nd_icmp_eq hC (tgt := 2729) dL_law_932 (by decide) (fun _ => ?_) (fun hq => absurd rfl hq)
  refine nd_widen (by omega) (by omega) (k (op_fold (xs (i + 1)) (xs (i + 2)) S).2.2 h3 ⟨hok, I2.o101 W3.1.1 (fun a z => W3.1.2 a (by omega)), by rw [W3.1.1]; have := f2.1; omega, ⟨ov, (W3.1.2 122 (by omega)).trans ((f2.2 122 (by omega) (by omega)).trans hov)⟩, A2, F2, B2, M3, W3.re (fun _ _ _ => rfl)⟩)
theorem lc_14 (hg : nd_OK g) (hd : 1100 ≤ d) (hC : nd_Cx g mL_law X) (hx : sc_X g L xs) (hi : i + 6 ≤ L) (hL : L ≤ 384) (hn : n ≤ 64) (HI : lw_I n S h) (hcs : cs + 2000 ≤ mc) (hss : ss + 81000 ≤ ms) (k : ∀ S2 h2, lw_I (n + 1) S2 h2 → nd_W g mL_law d mc ms K X 2729 (lw_lv i) [] h2 (cs + 2000) (ss + 81000)) : nd_W g mL_law d mc ms K X 937 (lw_lv i) [] h cs ss := by
  obtain ⟨hS, hI, hl, ⟨ov, hov⟩, A, F, B, hM, hW⟩ := id HI
  obtain ⟨⟨x0, hO⟩, -⟩ : (∃ x, cx_O h (nI (sy_b S).length) (nI (sy_fk S)) (sy_fp S) x) ∧ True := by
    obtain ⟨-, o, nap, ds, gi, dss, hK⟩ := hI
    exact ⟨hK.1, trivial⟩
  unfold cx_O at hO
  have hok : sy_ok (op_unfold S).2.2 := ok_unfold hS
  unfold lw_lv
  refine nd_aload_n hC dL_law_937 rfl rfl ?_
  refine nd_aload_n hC dL_law_938 rfl rfl ?_
  refine nd_callSX (mm2 := mX0_unfold) (As := [_, _]) (mc2 := 10) (ms2 := 60) (d2 := d - 1) hC rfl lkL_196 lmX0_unfold (Nat.le_of_ble_eq_true rfl) (by omega) rfl (by exact Nat.le_of_ble_eq_true rfl) (by omega) (by omega) dL_law_939 rfl ((wx_unfold hg (by omega)  S h _ ov hS hI hl hov (fun h2 ov2 I2 l2 f2 o2 v2 => ?_)))
  have W2 : mo_W h2 A F B h2 := hW.re f2
  have hbd := wb_unfold  S
  refine nd_istore hC dL_law_942 (Nat.le_of_ble_eq_true rfl) ?_
  refine nd_aload_n hC dL_law_944 rfl rfl ?_
  refine nd_callV (mm2 := mX7_unfold) (As := []) (mc2 := 0) (ms2 := 0) (d2 := d - 1) hC rfl lkL_199 ⟨rfl, lmX7_unfold⟩ (W2.2.1) rfl (Nat.le_of_ble_eq_true rfl) (by omega) rfl (by exact Nat.le_of_ble_eq_true rfl) (by omega) (by omega) dL_law_945 rfl ((mp_unfold (h0 := h2) hg (by omega)  (4 * n) S A F B h2 _ (by omega) hM hS W2 (fun A2 F2 B2 h3 M3 e4 W3 => ?_)))
  refine nd_istore hC dL_law_948 (Nat.le_of_ble_eq_true rfl) ?_
  refine nd_aload_n hC dL_law_950 rfl rfl ?_
  refine nd_callV (mm2 := mX7_thrown) (As := []) (mc2 := 0) (ms2 := 0) (d2 := d - 1) hC rfl lkL_151 ⟨rfl, lmX7_thrown⟩ (W3.2.1) rfl (Nat.le_of_ble_eq_true rfl) (by omega) rfl (by exact Nat.le_of_ble_eq_true rfl) (by omega) (by omega) dL_law_951 rfl ((sp_thrown hg W3 ?_))
  rw [e4]
  refine nd_iload hC dL_law_954 rfl ?_
  refine nd_icmp_eq hC (tgt := 961) dL_law_956 (by decide) (fun _ => ?_) (fun hq => absurd rfl hq)
  have FIN : nd_W g mL_law d mc ms K X 2729 (lw_lv i) [] h3 (cs + 2000) (ss + 81000) := k (op_unfold S).2.2 h3 ⟨hok, I2.o101 W3.1.1 (fun a z => W3.1.2 a (by omega)), by rw [W3.1.1]; omega, ⟨ov2, (W3.1.2 122 (by omega)).trans o2⟩, A2, F2, B2, M3, W3.re (fun _ _ _ => rfl)⟩
  have h3o := (W3.1.2 122 (by omega)).trans o2
  refine nd_iload hC dL_law_961 rfl ?_
  by_cases hz : (op_unfold S).1 = 0
  · have v3 : ov2 0 = (op_unfold S).2.1.toInt64 := v2 hz
    rw [show ((mp_i (op_unfold)) S).1 = 0 from hz]
    refine nd_if_ne hC (tgt := 978) dL_law_963 (by decide) (fun hq => absurd rfl hq) (fun _ => ?_)
    refine nd_aload_n hC dL_law_966 rfl rfl ?_
    refine nd_iconst hC (v := nI 0) (by rfl) dL_law_967 ?_
    refine nd_laloadN hC h3o (by omega) (by omega) dL_law_968 ?_
    refine nd_iload hC dL_law_969 rfl ?_
    first | with_reducible refine nd_i2lN hC (by omega) dL_law_971 ?_ | refine nd_i2l hC dL_law_971 ?_
    refine nd_lcmp_eq hC (tgt := 978) dL_law_972 dL_law_973 (by decide) (fun _ => ?_) (fun hq => absurd v3 hq)
    refine nd_goto hC (tgt := 2729) dL_law_978 (by decide) ?_
    refine nd_drop 5 (nd_drop 6 ?_)
    exact nd_widen (by omega) (by omega) FIN
  · refine nd_if_ne hC (tgt := 978) dL_law_963 (by decide) (fun _ => ?_) (fun hq => absurd (lw_nz hbd (by omega) hz hq) id)
    refine nd_goto hC (tgt := 2729) dL_law_978 (by decide) ?_
    refine nd_drop 5 (nd_drop 6 ?_)
    exact nd_widen (by omega) (by omega) FIN
theorem lc_15 (hg : nd_OK g) (hd : 1100 ≤ d) (hC : nd_Cx g mL_law X) (hx : sc_X g L xs) (hi : i + 6 ≤ L) (hL : L ≤ 384) (hn : n ≤ 64) (HI : lw_I n S h) (hcs : cs + 2000 ≤ mc) (hss : ss + 81000 ≤ ms) (k : ∀ S2 h2, lw_I (n + 1) S2 h2 → nd_W g mL_law d mc ms K X 2729 (lw_lv i) [] h2 (cs + 2000) (ss + 81000)) : nd_W g mL_law d mc ms K X 981 (lw_lv i) [] h cs ss := by
  obtain ⟨hS, hI, hl, ⟨ov, hov⟩, A, F, B, hM, hW⟩ := id HI
  obtain ⟨⟨x0, hO⟩, -⟩ : (∃ x, cx_O h (nI (sy_b S).length) (nI (sy_fk S)) (sy_fp S) x) ∧ True := by
    obtain ⟨-, o, nap, ds, gi, dss, hK⟩ := hI
    exact ⟨hK.1, trivial⟩
  unfold cx_O at hO
  have hok : sy_ok (op_shake S).2.2 := ok_shake hS
  unfold lw_lv
  refine nd_aload_n hC dL_law_981 rfl rfl ?_
  refine nd_aload_n hC dL_law_982 rfl rfl ?_
  refine nd_callSX (mm2 := mX0_shake) (As := [_, _]) (mc2 := 10) (ms2 := 60) (d2 := d - 1) hC rfl lkL_200 lmX0_shake (Nat.le_of_ble_eq_true rfl) (by omega) rfl (by exact Nat.le_of_ble_eq_true rfl) (by omega) (by omega) dL_law_983 rfl ((wx_shake hg (by omega)  S h _ ov hS hI hl hov (fun h2 ov2 I2 l2 f2 o2 v2 => ?_)))
  have W2 : mo_W h2 A F B h2 := hW.re f2
  have hbd := wb_shake  S
  refine nd_istore hC dL_law_986 (Nat.le_of_ble_eq_true rfl) ?_
  refine nd_aload_n hC dL_law_988 rfl rfl ?_
  refine nd_callV (mm2 := mX7_shake) (As := []) (mc2 := 0) (ms2 := 0) (d2 := d - 1) hC rfl lkL_202 ⟨rfl, lmX7_shake⟩ (W2.2.1) rfl (Nat.le_of_ble_eq_true rfl) (by omega) rfl (by exact Nat.le_of_ble_eq_true rfl) (by omega) (by omega) dL_law_989 rfl ((mp_shake (h0 := h2) hg (by omega)  (4 * n) S A F B h2 _ (by omega) hM hS W2 (fun A2 F2 B2 h3 M3 e4 W3 => ?_)))
  refine nd_istore hC dL_law_992 (Nat.le_of_ble_eq_true rfl) ?_
  refine nd_aload_n hC dL_law_994 rfl rfl ?_
  refine nd_callV (mm2 := mX7_thrown) (As := []) (mc2 := 0) (ms2 := 0) (d2 := d - 1) hC rfl lkL_151 ⟨rfl, lmX7_thrown⟩ (W3.2.1) rfl (Nat.le_of_ble_eq_true rfl) (by omega) rfl (by exact Nat.le_of_ble_eq_true rfl) (by omega) (by omega) dL_law_995 rfl ((sp_thrown hg W3 ?_))
  rw [e4]
  refine nd_iload hC dL_law_998 rfl ?_
  refine nd_icmp_eq hC (tgt := 1005) dL_law_1000 (by decide) (fun _ => ?_) (fun hq => absurd rfl hq)
  have FIN : nd_W g mL_law d mc ms K X 2729 (lw_lv i) [] h3 (cs + 2000) (ss + 81000) := k (op_shake S).2.2 h3 ⟨hok, I2.o101 W3.1.1 (fun a z => W3.1.2 a (by omega)), by rw [W3.1.1]; omega, ⟨ov2, (W3.1.2 122 (by omega)).trans o2⟩, A2, F2, B2, M3, W3.re (fun _ _ _ => rfl)⟩
  have h3o := (W3.1.2 122 (by omega)).trans o2
  refine nd_iload hC dL_law_1005 rfl ?_
  by_cases hz : (op_shake S).1 = 0
  · have v3 : ov2 0 = (op_shake S).2.1.toInt64 := v2 hz
    rw [show ((mp_i (op_shake)) S).1 = 0 from hz]
    refine nd_if_ne hC (tgt := 1022) dL_law_1007 (by decide) (fun hq => absurd rfl hq) (fun _ => ?_)
    refine nd_aload_n hC dL_law_1010 rfl rfl ?_
    refine nd_iconst hC (v := nI 0) (by rfl) dL_law_1011 ?_
    refine nd_laloadN hC h3o (by omega) (by omega) dL_law_1012 ?_
    refine nd_iload hC dL_law_1013 rfl ?_
    first | with_reducible refine nd_i2lN hC (by omega) dL_law_1015 ?_ | refine nd_i2l hC dL_law_1015 ?_
    refine nd_lcmp_eq hC (tgt := 1022) dL_law_1016 dL_law_1017 (by decide) (fun _ => ?_) (fun hq => absurd v3 hq)
    refine nd_goto hC (tgt := 2729) dL_law_1022 (by decide) ?_
    refine nd_drop 5 (nd_drop 6 ?_)
    exact nd_widen (by omega) (by omega) FIN
  · refine nd_if_ne hC (tgt := 1022) dL_law_1007 (by decide) (fun _ => ?_) (fun hq => absurd (lw_nz hbd (by omega) hz hq) id)
    refine nd_goto hC (tgt := 2729) dL_law_1022 (by decide) ?_
    refine nd_drop 5 (nd_drop 6 ?_)
    exact nd_widen (by omega) (by omega) FIN
theorem lc_16 (hg : nd_OK g) (hd : 1100 ≤ d) (hC : nd_Cx g mL_law X) (hx : sc_X g L xs) (hi : i + 6 ≤ L) (hL : L ≤ 384) (hn : n ≤ 64) (HI : lw_I n S h) (hcs : cs + 2000 ≤ mc) (hss : ss + 81000 ≤ ms) (k : ∀ S2 h2, lw_I (n + 1) S2 h2 → nd_W g mL_law d mc ms K X 2729 (lw_lv i) [] h2 (cs + 2000) (ss + 81000)) : nd_W g mL_law d mc ms K X 1025 (lw_lv i) [] h cs ss := by
  obtain ⟨hS, hI, hl, ⟨ov, hov⟩, A, F, B, hM, hW⟩ := id HI
  obtain ⟨⟨x0, hO⟩, -⟩ : (∃ x, cx_O h (nI (sy_b S).length) (nI (sy_fk S)) (sy_fp S) x) ∧ True := by
    obtain ⟨-, o, nap, ds, gi, dss, hK⟩ := hI
    exact ⟨hK.1, trivial⟩
  unfold cx_O at hO
  have hok : sy_ok (op_amend (xs (i + 1)) (xs (i + 2)) (xs (i + 3)) S).2.2 := ok_amend hS
  unfold lw_lv
  refine nd_aload_n hC dL_law_1025 rfl rfl ?_
  refine nd_aload_n hC dL_law_1026 rfl rfl ?_
  refine nd_iload hC dL_law_1027 rfl ?_
  refine nd_iconst hC (v := nI 1) (by rfl) dL_law_1029 ?_
  first | with_reducible refine nd_iaddN hC dL_law_1030 ?_ | refine nd_iadd hC dL_law_1030 ?_
  refine nd_sald (j := i + 1) hC hx (by omega) (by omega) dL_law_1031 ?_
  refine nd_aload_n hC dL_law_1032 rfl rfl ?_
  refine nd_iload hC dL_law_1033 rfl ?_
  refine nd_iconst hC (v := nI 2) (by rfl) dL_law_1035 ?_
  first | with_reducible refine nd_iaddN hC dL_law_1036 ?_ | refine nd_iadd hC dL_law_1036 ?_
  refine nd_sald (j := i + 2) hC hx (by omega) (by omega) dL_law_1037 ?_
  refine nd_aload_n hC dL_law_1038 rfl rfl ?_
  refine nd_iload hC dL_law_1039 rfl ?_
  refine nd_iconst hC (v := nI 3) (by rfl) dL_law_1041 ?_
  first | with_reducible refine nd_iaddN hC dL_law_1042 ?_ | refine nd_iadd hC dL_law_1042 ?_
  refine nd_sald (j := i + 3) hC hx (by omega) (by omega) dL_law_1043 ?_
  refine nd_aload_n hC dL_law_1044 rfl rfl ?_
  refine nd_callSX (mm2 := mX0_amend) (As := [_, _, _, _, _]) (mc2 := 12) (ms2 := 70) (d2 := d - 1) hC rfl lkL_203 lmX0_amend (Nat.le_of_ble_eq_true rfl) (by omega) rfl (by exact Nat.le_of_ble_eq_true rfl) (by omega) (by omega) dL_law_1045 rfl ((wx_amend hg (by omega) (xs (i + 1)) (xs (i + 2)) (xs (i + 3)) S h _ ov hS hI hl hov (fun h2 ov2 I2 l2 f2 o2 v2 => ?_)))
  have W2 : mo_W h2 A F B h2 := hW.re f2
  have hbd := wb_amend (xs (i + 1)) (xs (i + 2)) (xs (i + 3)) S
  refine nd_istore hC dL_law_1048 (Nat.le_of_ble_eq_true rfl) ?_
  refine nd_aload_n hC dL_law_1050 rfl rfl ?_
  refine nd_aload_n hC dL_law_1051 rfl rfl ?_
  refine nd_iload hC dL_law_1052 rfl ?_
  refine nd_iconst hC (v := nI 1) (by rfl) dL_law_1054 ?_
  first | with_reducible refine nd_iaddN hC dL_law_1055 ?_ | refine nd_iadd hC dL_law_1055 ?_
  refine nd_sald (j := i + 1) hC hx (by omega) (by omega) dL_law_1056 ?_
  refine nd_aload_n hC dL_law_1057 rfl rfl ?_
  refine nd_iload hC dL_law_1058 rfl ?_
  refine nd_iconst hC (v := nI 2) (by rfl) dL_law_1060 ?_
  first | with_reducible refine nd_iaddN hC dL_law_1061 ?_ | refine nd_iadd hC dL_law_1061 ?_
  refine nd_sald (j := i + 2) hC hx (by omega) (by omega) dL_law_1062 ?_
  refine nd_aload_n hC dL_law_1063 rfl rfl ?_
  refine nd_iload hC dL_law_1064 rfl ?_
  refine nd_iconst hC (v := nI 3) (by rfl) dL_law_1066 ?_
  first | with_reducible refine nd_iaddN hC dL_law_1067 ?_ | refine nd_iadd hC dL_law_1067 ?_
  refine nd_sald (j := i + 3) hC hx (by omega) (by omega) dL_law_1068 ?_
  refine nd_callV (mm2 := mX7_amend) (As := [_, _, _]) (mc2 := 0) (ms2 := 0) (d2 := d - 1) hC rfl lkL_206 ⟨rfl, lmX7_amend⟩ (W2.2.1) rfl (Nat.le_of_ble_eq_true rfl) (by omega) rfl (by exact Nat.le_of_ble_eq_true rfl) (by omega) (by omega) dL_law_1069 rfl ((mp_amend (h0 := h2) hg (by omega) (xs (i + 1)) (xs (i + 2)) (xs (i + 3)) (4 * n) S A F B h2 _ (by omega) hM hS W2 (fun A2 F2 B2 h3 M3 e4 W3 => ?_)))
  refine nd_istore hC dL_law_1072 (Nat.le_of_ble_eq_true rfl) ?_
  refine nd_aload_n hC dL_law_1074 rfl rfl ?_
  refine nd_callV (mm2 := mX7_thrown) (As := []) (mc2 := 0) (ms2 := 0) (d2 := d - 1) hC rfl lkL_151 ⟨rfl, lmX7_thrown⟩ (W3.2.1) rfl (Nat.le_of_ble_eq_true rfl) (by omega) rfl (by exact Nat.le_of_ble_eq_true rfl) (by omega) (by omega) dL_law_1075 rfl ((sp_thrown hg W3 ?_))
  rw [e4]
  refine nd_iload hC dL_law_1078 rfl ?_
  refine nd_icmp_eq hC (tgt := 1085) dL_law_1080 (by decide) (fun _ => ?_) (fun hq => absurd rfl hq)
  have FIN : nd_W g mL_law d mc ms K X 2729 (lw_lv i) [] h3 (cs + 2000) (ss + 81000) := k (op_amend (xs (i + 1)) (xs (i + 2)) (xs (i + 3)) S).2.2 h3 ⟨hok, I2.o101 W3.1.1 (fun a z => W3.1.2 a (by omega)), by rw [W3.1.1]; omega, ⟨ov2, (W3.1.2 122 (by omega)).trans o2⟩, A2, F2, B2, M3, W3.re (fun _ _ _ => rfl)⟩
  have h3o := (W3.1.2 122 (by omega)).trans o2
  refine nd_iload hC dL_law_1085 rfl ?_
  by_cases hz : (op_amend (xs (i + 1)) (xs (i + 2)) (xs (i + 3)) S).1 = 0
  · have v3 : ov2 0 = (op_amend (xs (i + 1)) (xs (i + 2)) (xs (i + 3)) S).2.1.toInt64 := v2 hz
    rw [show ((mp_i (op_amend (xs (i + 1)) (xs (i + 2)) (xs (i + 3)))) S).1 = 0 from hz]
    refine nd_if_ne hC (tgt := 1102) dL_law_1087 (by decide) (fun hq => absurd rfl hq) (fun _ => ?_)
    refine nd_aload_n hC dL_law_1090 rfl rfl ?_
    refine nd_iconst hC (v := nI 0) (by rfl) dL_law_1091 ?_
    refine nd_laloadN hC h3o (by omega) (by omega) dL_law_1092 ?_
    refine nd_iload hC dL_law_1093 rfl ?_
    first | with_reducible refine nd_i2lN hC (by omega) dL_law_1095 ?_ | refine nd_i2l hC dL_law_1095 ?_
    refine nd_lcmp_eq hC (tgt := 1102) dL_law_1096 dL_law_1097 (by decide) (fun _ => ?_) (fun hq => absurd v3 hq)
    refine nd_goto hC (tgt := 2729) dL_law_1102 (by decide) ?_
    refine nd_drop 5 (nd_drop 6 ?_)
    exact nd_widen (by omega) (by omega) FIN
  · refine nd_if_ne hC (tgt := 1102) dL_law_1087 (by decide) (fun _ => ?_) (fun hq => absurd (lw_nz hbd (by omega) hz hq) id)
    refine nd_goto hC (tgt := 2729) dL_law_1102 (by decide) ?_
    refine nd_drop 5 (nd_drop 6 ?_)
    exact nd_widen (by omega) (by omega) FIN
theorem lc_17 (hg : nd_OK g) (hd : 1100 ≤ d) (hC : nd_Cx g mL_law X) (hx : sc_X g L xs) (hi : i + 6 ≤ L) (hL : L ≤ 384) (hn : n ≤ 64) (HI : lw_I n S h) (hcs : cs + 2000 ≤ mc) (hss : ss + 81000 ≤ ms) (k : ∀ S2 h2, lw_I (n + 1) S2 h2 → nd_W g mL_law d mc ms K X 2729 (lw_lv i) [] h2 (cs + 2000) (ss + 81000)) : nd_W g mL_law d mc ms K X 1105 (lw_lv i) [] h cs ss := by
  obtain ⟨hS, hI, hl, ⟨ov, hov⟩, A, F, B, hM, hW⟩ := id HI
  obtain ⟨⟨x0, hO⟩, -⟩ : (∃ x, cx_O h (nI (sy_b S).length) (nI (sy_fk S)) (sy_fp S) x) ∧ True := by
    obtain ⟨-, o, nap, ds, gi, dss, hK⟩ := hI
    exact ⟨hK.1, trivial⟩
  unfold cx_O at hO
  have hok : sy_ok (op_undo (xs (i + 1)) S).2.2 := ok_undo hS
  unfold lw_lv
  refine nd_aload_n hC dL_law_1105 rfl rfl ?_
  refine nd_aload_n hC dL_law_1106 rfl rfl ?_
  refine nd_iload hC dL_law_1107 rfl ?_
  refine nd_iconst hC (v := nI 1) (by rfl) dL_law_1109 ?_
  first | with_reducible refine nd_iaddN hC dL_law_1110 ?_ | refine nd_iadd hC dL_law_1110 ?_
  refine nd_sald (j := i + 1) hC hx (by omega) (by omega) dL_law_1111 ?_
  refine nd_aload_n hC dL_law_1112 rfl rfl ?_
  refine nd_callSX (mm2 := mX0_undo) (As := [_, _, _]) (mc2 := 2) (ms2 := 12) (d2 := d - 1) hC rfl lkL_207 lmX0_undo (Nat.le_of_ble_eq_true rfl) (by omega) rfl (by exact Nat.le_of_ble_eq_true rfl) (by omega) (by omega) dL_law_1113 rfl ((wx_undo hg (by omega) (xs (i + 1)) S h _ ov hS hI hl hov (fun h2 ov2 I2 l2 f2 o2 v2 => ?_)))
  have W2 : mo_W h2 A F B h2 := hW.re f2
  have hbd := wb_undo (xs (i + 1)) S
  refine nd_istore hC dL_law_1116 (Nat.le_of_ble_eq_true rfl) ?_
  refine nd_aload_n hC dL_law_1118 rfl rfl ?_
  refine nd_aload_n hC dL_law_1119 rfl rfl ?_
  refine nd_iload hC dL_law_1120 rfl ?_
  refine nd_iconst hC (v := nI 1) (by rfl) dL_law_1122 ?_
  first | with_reducible refine nd_iaddN hC dL_law_1123 ?_ | refine nd_iadd hC dL_law_1123 ?_
  refine nd_sald (j := i + 1) hC hx (by omega) (by omega) dL_law_1124 ?_
  refine nd_callV (mm2 := mX7_undo) (As := [_]) (mc2 := 0) (ms2 := 0) (d2 := d - 1) hC rfl lkL_209 ⟨rfl, lmX7_undo⟩ (W2.2.1) rfl (Nat.le_of_ble_eq_true rfl) (by omega) rfl (by exact Nat.le_of_ble_eq_true rfl) (by omega) (by omega) dL_law_1125 rfl ((mp_undo (h0 := h2) hg (by omega) (xs (i + 1)) (4 * n) S A F B h2 _ (by omega) hM hS W2 (fun A2 F2 B2 h3 M3 e4 W3 => ?_)))
  refine nd_istore hC dL_law_1128 (Nat.le_of_ble_eq_true rfl) ?_
  refine nd_aload_n hC dL_law_1130 rfl rfl ?_
  refine nd_callV (mm2 := mX7_thrown) (As := []) (mc2 := 0) (ms2 := 0) (d2 := d - 1) hC rfl lkL_151 ⟨rfl, lmX7_thrown⟩ (W3.2.1) rfl (Nat.le_of_ble_eq_true rfl) (by omega) rfl (by exact Nat.le_of_ble_eq_true rfl) (by omega) (by omega) dL_law_1131 rfl ((sp_thrown hg W3 ?_))
  rw [e4]
  refine nd_iload hC dL_law_1134 rfl ?_
  refine nd_icmp_eq hC (tgt := 1141) dL_law_1136 (by decide) (fun _ => ?_) (fun hq => absurd rfl hq)
  have FIN : nd_W g mL_law d mc ms K X 2729 (lw_lv i) [] h3 (cs + 2000) (ss + 81000) := k (op_undo (xs (i + 1)) S).2.2 h3 ⟨hok, I2.o101 W3.1.1 (fun a z => W3.1.2 a (by omega)), by rw [W3.1.1]; omega, ⟨ov2, (W3.1.2 122 (by omega)).trans o2⟩, A2, F2, B2, M3, W3.re (fun _ _ _ => rfl)⟩
  have h3o := (W3.1.2 122 (by omega)).trans o2
  refine nd_iload hC dL_law_1141 rfl ?_
  by_cases hz : (op_undo (xs (i + 1)) S).1 = 0
  · have v3 : ov2 0 = (op_undo (xs (i + 1)) S).2.1.toInt64 := v2 hz
    rw [show ((mp_i (op_undo (xs (i + 1)))) S).1 = 0 from hz]
    refine nd_if_ne hC (tgt := 1158) dL_law_1143 (by decide) (fun hq => absurd rfl hq) (fun _ => ?_)
    refine nd_aload_n hC dL_law_1146 rfl rfl ?_
    refine nd_iconst hC (v := nI 0) (by rfl) dL_law_1147 ?_
    refine nd_laloadN hC h3o (by omega) (by omega) dL_law_1148 ?_
    refine nd_iload hC dL_law_1149 rfl ?_
    first | with_reducible refine nd_i2lN hC (by omega) dL_law_1151 ?_ | refine nd_i2l hC dL_law_1151 ?_
    refine nd_lcmp_eq hC (tgt := 1158) dL_law_1152 dL_law_1153 (by decide) (fun _ => ?_) (fun hq => absurd v3 hq)
    refine nd_goto hC (tgt := 2729) dL_law_1158 (by decide) ?_
    refine nd_drop 5 (nd_drop 6 ?_)
    exact nd_widen (by omega) (by omega) FIN
  · refine nd_if_ne hC (tgt := 1158) dL_law_1143 (by decide) (fun _ => ?_) (fun hq => absurd (lw_nz hbd (by omega) hz hq) id)
    refine nd_goto hC (tgt := 2729) dL_law_1158 (by decide) ?_
    refine nd_drop 5 (nd_drop 6 ?_)
    exact nd_widen (by omega) (by omega) FIN
theorem lc_18 (hg : nd_OK g) (hd : 1100 ≤ d) (hC : nd_Cx g mL_law X) (hx : sc_X g L xs) (hi : i + 6 ≤ L) (hL : L ≤ 384) (hn : n ≤ 64) (HI : lw_I n S h) (hcs : cs + 2000 ≤ mc) (hss : ss + 81000 ≤ ms) (k : ∀ S2 h2, lw_I (n + 1) S2 h2 → nd_W g mL_law d mc ms K X 2729 (lw_lv i) [] h2 (cs + 2000) (ss + 81000)) : nd_W g mL_law d mc ms K X 1161 (lw_lv i) [] h cs ss := by
  obtain ⟨hS, hI, hl, ⟨ov, hov⟩, A, F, B, hM, hW⟩ := id HI
  obtain ⟨⟨x0, hO⟩, -⟩ : (∃ x, cx_O h (nI (sy_b S).length) (nI (sy_fk S)) (sy_fp S) x) ∧ True := by
    obtain ⟨-, o, nap, ds, gi, dss, hK⟩ := hI
    exact ⟨hK.1, trivial⟩
  unfold cx_O at hO
  have hok : sy_ok (op_judge (xs (i + 1)) (xs (i + 2)) S).2.2 := by
    unfold op_judge
    repeat' split
    all_goals exact hS
  unfold lw_lv
  refine nd_aload_n hC dL_law_1161 rfl rfl ?_
  refine nd_aload_n hC dL_law_1162 rfl rfl ?_
  refine nd_iload hC dL_law_1163 rfl ?_
  refine nd_iconst hC (v := nI 1) (by rfl) dL_law_1165 ?_
  first | with_reducible refine nd_iaddN hC dL_law_1166 ?_ | refine nd_iadd hC dL_law_1166 ?_
  refine nd_sald (j := i + 1) hC hx (by omega) (by omega) dL_law_1167 ?_
  refine nd_aload_n hC dL_law_1168 rfl rfl ?_
  refine nd_iload hC dL_law_1169 rfl ?_
  refine nd_iconst hC (v := nI 2) (by rfl) dL_law_1171 ?_
  first | with_reducible refine nd_iaddN hC dL_law_1172 ?_ | refine nd_iadd hC dL_law_1172 ?_
  refine nd_sald (j := i + 2) hC hx (by omega) (by omega) dL_law_1173 ?_
  refine nd_aload_n hC dL_law_1174 rfl rfl ?_
  refine nd_callSX (mm2 := mX0_judge) (As := [_, _, _, _]) (mc2 := 3) (ms2 := 18) (d2 := d - 1) hC rfl lkL_210 lmX0_judge (Nat.le_of_ble_eq_true rfl) (by omega) rfl (by exact Nat.le_of_ble_eq_true rfl) (by omega) (by omega) dL_law_1175 rfl ((wx_judge hg (by omega) (xs (i + 1)) (xs (i + 2)) S h _ ov hS hI hl hov (fun h2 ov2 I2 l2 f2 o2 v2 => ?_)))
  have W2 : mo_W h2 A F B h2 := hW.re f2
  have hbd := wb_judge (xs (i + 1)) (xs (i + 2)) S
  refine nd_istore hC dL_law_1178 (Nat.le_of_ble_eq_true rfl) ?_
  refine nd_aload_n hC dL_law_1180 rfl rfl ?_
  refine nd_aload_n hC dL_law_1181 rfl rfl ?_
  refine nd_iload hC dL_law_1182 rfl ?_
  refine nd_iconst hC (v := nI 1) (by rfl) dL_law_1184 ?_
  first | with_reducible refine nd_iaddN hC dL_law_1185 ?_ | refine nd_iadd hC dL_law_1185 ?_
  refine nd_sald (j := i + 1) hC hx (by omega) (by omega) dL_law_1186 ?_
  refine nd_aload_n hC dL_law_1187 rfl rfl ?_
  refine nd_iload hC dL_law_1188 rfl ?_
  refine nd_iconst hC (v := nI 2) (by rfl) dL_law_1190 ?_
  first | with_reducible refine nd_iaddN hC dL_law_1191 ?_ | refine nd_iadd hC dL_law_1191 ?_
  refine nd_sald (j := i + 2) hC hx (by omega) (by omega) dL_law_1192 ?_
  refine nd_callV (mm2 := mX7_judge) (As := [_, _]) (mc2 := 0) (ms2 := 0) (d2 := d - 1) hC rfl lkL_212 ⟨rfl, lmX7_judge⟩ (W2.2.1) rfl (Nat.le_of_ble_eq_true rfl) (by omega) rfl (by exact Nat.le_of_ble_eq_true rfl) (by omega) (by omega) dL_law_1193 rfl ((mp_judge (h0 := h2) hg (by omega) (xs (i + 1)) (xs (i + 2)) (4 * n) S A F B h2 _ (by omega) hM hS W2 (fun A2 F2 B2 h3 M3 e4 W3 => ?_)))
  refine nd_istore hC dL_law_1196 (Nat.le_of_ble_eq_true rfl) ?_
  refine nd_aload_n hC dL_law_1198 rfl rfl ?_
  refine nd_callV (mm2 := mX7_thrown) (As := []) (mc2 := 0) (ms2 := 0) (d2 := d - 1) hC rfl lkL_151 ⟨rfl, lmX7_thrown⟩ (W3.2.1) rfl (Nat.le_of_ble_eq_true rfl) (by omega) rfl (by exact Nat.le_of_ble_eq_true rfl) (by omega) (by omega) dL_law_1199 rfl ((sp_thrown hg W3 ?_))
  rw [e4]
  refine nd_iload hC dL_law_1202 rfl ?_
  refine nd_icmp_eq hC (tgt := 1209) dL_law_1204 (by decide) (fun _ => ?_) (fun hq => absurd rfl hq)
  have FIN : nd_W g mL_law d mc ms K X 2729 (lw_lv i) [] h3 (cs + 2000) (ss + 81000) := k (op_judge (xs (i + 1)) (xs (i + 2)) S).2.2 h3 ⟨hok, I2.o101 W3.1.1 (fun a z => W3.1.2 a (by omega)), by rw [W3.1.1]; omega, ⟨ov2, (W3.1.2 122 (by omega)).trans o2⟩, A2, F2, B2, M3, W3.re (fun _ _ _ => rfl)⟩
  have h3o := (W3.1.2 122 (by omega)).trans o2
  refine nd_iload hC dL_law_1209 rfl ?_
  by_cases hz : (op_judge (xs (i + 1)) (xs (i + 2)) S).1 = 0
  · have v3 : ov2 0 = (op_judge (xs (i + 1)) (xs (i + 2)) S).2.1.toInt64 := v2 hz
    rw [show ((mp_i (op_judge (xs (i + 1)) (xs (i + 2)))) S).1 = 0 from hz]
    refine nd_if_ne hC (tgt := 1226) dL_law_1211 (by decide) (fun hq => absurd rfl hq) (fun _ => ?_)
    refine nd_aload_n hC dL_law_1214 rfl rfl ?_
    refine nd_iconst hC (v := nI 0) (by rfl) dL_law_1215 ?_
    refine nd_laloadN hC h3o (by omega) (by omega) dL_law_1216 ?_
    refine nd_iload hC dL_law_1217 rfl ?_
    first | with_reducible refine nd_i2lN hC (by omega) dL_law_1219 ?_ | refine nd_i2l hC dL_law_1219 ?_
    refine nd_lcmp_eq hC (tgt := 1226) dL_law_1220 dL_law_1221 (by decide) (fun _ => ?_) (fun hq => absurd v3 hq)
    refine nd_goto hC (tgt := 2729) dL_law_1226 (by decide) ?_
    refine nd_drop 5 (nd_drop 6 ?_)
    exact nd_widen (by omega) (by omega) FIN
  · refine nd_if_ne hC (tgt := 1226) dL_law_1211 (by decide) (fun _ => ?_) (fun hq => absurd (lw_nz hbd (by omega) hz hq) id)
    refine nd_goto hC (tgt := 2729) dL_law_1226 (by decide) ?_
    refine nd_drop 5 (nd_drop 6 ?_)
    exact nd_widen (by omega) (by omega) FIN
theorem lc_19 (hg : nd_OK g) (hd : 1100 ≤ d) (hC : nd_Cx g mL_law X) (hx : sc_X g L xs) (hi : i + 6 ≤ L) (hL : L ≤ 384) (hn : n ≤ 64) (HI : lw_I n S h) (hcs : cs + 2000 ≤ mc) (hss : ss + 81000 ≤ ms) (k : ∀ S2 h2, lw_I (n + 1) S2 h2 → nd_W g mL_law d mc ms K X 2729 (lw_lv i) [] h2 (cs + 2000) (ss + 81000)) : nd_W g mL_law d mc ms K X 1229 (lw_lv i) [] h cs ss := by
  obtain ⟨hS, hI, hl, ⟨ov, hov⟩, A, F, B, hM, hW⟩ := id HI
  obtain ⟨⟨x0, hO⟩, -⟩ : (∃ x, cx_O h (nI (sy_b S).length) (nI (sy_fk S)) (sy_fp S) x) ∧ True := by
    obtain ⟨-, o, nap, ds, gi, dss, hK⟩ := hI
    exact ⟨hK.1, trivial⟩
  unfold cx_O at hO
  have hok : sy_ok (op_perform (xs (i + 1)) S).2.2 := ok_perform hS
  unfold lw_lv
  refine nd_aload_n hC dL_law_1229 rfl rfl ?_
  refine nd_aload_n hC dL_law_1230 rfl rfl ?_
  refine nd_iload hC dL_law_1231 rfl ?_
  refine nd_iconst hC (v := nI 1) (by rfl) dL_law_1233 ?_
  first | with_reducible refine nd_iaddN hC dL_law_1234 ?_ | refine nd_iadd hC dL_law_1234 ?_
  refine nd_sald (j := i + 1) hC hx (by omega) (by omega) dL_law_1235 ?_
  refine nd_aload_n hC dL_law_1236 rfl rfl ?_
  refine nd_callSX (mm2 := mX0_perform) (As := [_, _, _]) (mc2 := 290) (ms2 := 1500) (d2 := d - 1) hC rfl lkL_213 lmX0_perform (Nat.le_of_ble_eq_true rfl) (by omega) rfl (by exact Nat.le_of_ble_eq_true rfl) (by omega) (by omega) dL_law_1237 rfl ((wx_perform hg (by omega) (xs (i + 1)) S h _ ov hS hI hl hov (fun h2 ov2 I2 l2 f2 o2 v2 => ?_)))
  have W2 : mo_W h2 A F B h2 := hW.re f2
  have hbd := wb_perform (xs (i + 1)) S
  refine nd_istore hC dL_law_1240 (Nat.le_of_ble_eq_true rfl) ?_
  refine nd_aload_n hC dL_law_1242 rfl rfl ?_
  refine nd_aload_n hC dL_law_1243 rfl rfl ?_
  refine nd_iload hC dL_law_1244 rfl ?_
  refine nd_iconst hC (v := nI 1) (by rfl) dL_law_1246 ?_
  first | with_reducible refine nd_iaddN hC dL_law_1247 ?_ | refine nd_iadd hC dL_law_1247 ?_
  refine nd_sald (j := i + 1) hC hx (by omega) (by omega) dL_law_1248 ?_
  refine nd_callV (mm2 := mX7_perform) (As := [_]) (mc2 := 0) (ms2 := 0) (d2 := d - 1) hC rfl lkL_215 ⟨rfl, lmX7_perform⟩ (W2.2.1) rfl (Nat.le_of_ble_eq_true rfl) (by omega) rfl (by exact Nat.le_of_ble_eq_true rfl) (by omega) (by omega) dL_law_1249 rfl ((mp_perform (h0 := h2) hg (by omega) (xs (i + 1)) (4 * n) S A F B h2 _ (by omega) hM hS W2 (fun A2 F2 B2 h3 M3 e4 W3 => ?_)))
  refine nd_istore hC dL_law_1252 (Nat.le_of_ble_eq_true rfl) ?_
  refine nd_aload_n hC dL_law_1254 rfl rfl ?_
  refine nd_callV (mm2 := mX7_thrown) (As := []) (mc2 := 0) (ms2 := 0) (d2 := d - 1) hC rfl lkL_151 ⟨rfl, lmX7_thrown⟩ (W3.2.1) rfl (Nat.le_of_ble_eq_true rfl) (by omega) rfl (by exact Nat.le_of_ble_eq_true rfl) (by omega) (by omega) dL_law_1255 rfl ((sp_thrown hg W3 ?_))
  rw [e4]
  refine nd_iload hC dL_law_1258 rfl ?_
  refine nd_icmp_eq hC (tgt := 1265) dL_law_1260 (by decide) (fun _ => ?_) (fun hq => absurd rfl hq)
  have FIN : nd_W g mL_law d mc ms K X 2729 (lw_lv i) [] h3 (cs + 2000) (ss + 81000) := k (op_perform (xs (i + 1)) S).2.2 h3 ⟨hok, I2.o101 W3.1.1 (fun a z => W3.1.2 a (by omega)), by rw [W3.1.1]; omega, ⟨ov2, (W3.1.2 122 (by omega)).trans o2⟩, A2, F2, B2, M3, W3.re (fun _ _ _ => rfl)⟩
  have h3o := (W3.1.2 122 (by omega)).trans o2
  refine nd_iload hC dL_law_1265 rfl ?_
  by_cases hz : (op_perform (xs (i + 1)) S).1 = 0
  · have v3 : ov2 0 = (op_perform (xs (i + 1)) S).2.1.toInt64 := v2 hz
    rw [show ((mp_i (op_perform (xs (i + 1)))) S).1 = 0 from hz]
    refine nd_if_ne hC (tgt := 1282) dL_law_1267 (by decide) (fun hq => absurd rfl hq) (fun _ => ?_)
    refine nd_aload_n hC dL_law_1270 rfl rfl ?_
    refine nd_iconst hC (v := nI 0) (by rfl) dL_law_1271 ?_
    refine nd_laloadN hC h3o (by omega) (by omega) dL_law_1272 ?_
    refine nd_iload hC dL_law_1273 rfl ?_
    first | with_reducible refine nd_i2lN hC (by omega) dL_law_1275 ?_ | refine nd_i2l hC dL_law_1275 ?_
    refine nd_lcmp_eq hC (tgt := 1282) dL_law_1276 dL_law_1277 (by decide) (fun _ => ?_) (fun hq => absurd v3 hq)
    refine nd_goto hC (tgt := 2729) dL_law_1282 (by decide) ?_
    refine nd_drop 5 (nd_drop 6 ?_)
    exact nd_widen (by omega) (by omega) FIN
  · refine nd_if_ne hC (tgt := 1282) dL_law_1267 (by decide) (fun _ => ?_) (fun hq => absurd (lw_nz hbd (by omega) hz hq) id)
    refine nd_goto hC (tgt := 2729) dL_law_1282 (by decide) ?_
    refine nd_drop 5 (nd_drop 6 ?_)
    exact nd_widen (by omega) (by omega) FIN
theorem lc_20 (hg : nd_OK g) (hd : 1100 ≤ d) (hC : nd_Cx g mL_law X) (hx : sc_X g L xs) (hi : i + 6 ≤ L) (hL : L ≤ 384) (hn : n ≤ 64) (HI : lw_I n S h) (hcs : cs + 2000 ≤ mc) (hss : ss + 81000 ≤ ms) (k : ∀ S2 h2, lw_I (n + 1) S2 h2 → nd_W g mL_law d mc ms K X 2729 (lw_lv i) [] h2 (cs + 2000) (ss + 81000)) : nd_W g mL_law d mc ms K X 1285 (lw_lv i) [] h cs ss := by
  obtain ⟨hS, hI, hl, ⟨ov, hov⟩, A, F, B, hM, hW⟩ := id HI
  obtain ⟨⟨x0, hO⟩, -⟩ : (∃ x, cx_O h (nI (sy_b S).length) (nI (sy_fk S)) (sy_fp S) x) ∧ True := by
    obtain ⟨-, o, nap, ds, gi, dss, hK⟩ := hI
    exact ⟨hK.1, trivial⟩
  unfold cx_O at hO
  have hok : sy_ok (op_evening (xs (i + 1)) (xs (i + 2)) S).2.2 := ok_evening hS
  unfold lw_lv
  refine nd_aload_n hC dL_law_1285 rfl rfl ?_
  refine nd_aload_n hC dL_law_1286 rfl rfl ?_
  refine nd_iload hC dL_law_1287 rfl ?_
  refine nd_iconst hC (v := nI 1) (by rfl) dL_law_1289 ?_
  first | with_reducible refine nd_iaddN hC dL_law_1290 ?_ | refine nd_iadd hC dL_law_1290 ?_
  refine nd_sald (j := i + 1) hC hx (by omega) (by omega) dL_law_1291 ?_
  refine nd_aload_n hC dL_law_1292 rfl rfl ?_
  refine nd_iload hC dL_law_1293 rfl ?_
  refine nd_iconst hC (v := nI 2) (by rfl) dL_law_1295 ?_
  first | with_reducible refine nd_iaddN hC dL_law_1296 ?_ | refine nd_iadd hC dL_law_1296 ?_
  refine nd_sald (j := i + 2) hC hx (by omega) (by omega) dL_law_1297 ?_
  refine nd_aload_n hC dL_law_1298 rfl rfl ?_
  refine nd_callSX (mm2 := mX0_evening) (As := [_, _, _, _]) (mc2 := 290) (ms2 := 1500) (d2 := d - 1) hC rfl lkL_216 lmX0_evening (Nat.le_of_ble_eq_true rfl) (by omega) rfl (by exact Nat.le_of_ble_eq_true rfl) (by omega) (by omega) dL_law_1299 rfl ((wx_evening hg (by omega) (xs (i + 1)) (xs (i + 2)) S h _ ov hS hI hl hov (fun h2 ov2 I2 l2 f2 o2 v2 => ?_)))
  have W2 : mo_W h2 A F B h2 := hW.re f2
  have hbd := wb_evening (xs (i + 1)) (xs (i + 2)) S
  refine nd_istore hC dL_law_1302 (Nat.le_of_ble_eq_true rfl) ?_
  refine nd_aload_n hC dL_law_1304 rfl rfl ?_
  refine nd_aload_n hC dL_law_1305 rfl rfl ?_
  refine nd_iload hC dL_law_1306 rfl ?_
  refine nd_iconst hC (v := nI 1) (by rfl) dL_law_1308 ?_
  first | with_reducible refine nd_iaddN hC dL_law_1309 ?_ | refine nd_iadd hC dL_law_1309 ?_
  refine nd_sald (j := i + 1) hC hx (by omega) (by omega) dL_law_1310 ?_
  refine nd_aload_n hC dL_law_1311 rfl rfl ?_
  refine nd_iload hC dL_law_1312 rfl ?_
  refine nd_iconst hC (v := nI 2) (by rfl) dL_law_1314 ?_
  first | with_reducible refine nd_iaddN hC dL_law_1315 ?_ | refine nd_iadd hC dL_law_1315 ?_
  refine nd_sald (j := i + 2) hC hx (by omega) (by omega) dL_law_1316 ?_
  refine nd_callV (mm2 := mX7_evening) (As := [_, _]) (mc2 := 0) (ms2 := 0) (d2 := d - 1) hC rfl lkL_218 ⟨rfl, lmX7_evening⟩ (W2.2.1) rfl (Nat.le_of_ble_eq_true rfl) (by omega) rfl (by exact Nat.le_of_ble_eq_true rfl) (by omega) (by omega) dL_law_1317 rfl ((mp_evening (h0 := h2) hg (by omega) (xs (i + 1)) (xs (i + 2)) (4 * n) S A F B h2 _ (by omega) hM hS W2 (fun A2 F2 B2 h3 M3 e4 W3 => ?_)))
  refine nd_istore hC dL_law_1320 (Nat.le_of_ble_eq_true rfl) ?_
  refine nd_aload_n hC dL_law_1322 rfl rfl ?_
  refine nd_callV (mm2 := mX7_thrown) (As := []) (mc2 := 0) (ms2 := 0) (d2 := d - 1) hC rfl lkL_151 ⟨rfl, lmX7_thrown⟩ (W3.2.1) rfl (Nat.le_of_ble_eq_true rfl) (by omega) rfl (by exact Nat.le_of_ble_eq_true rfl) (by omega) (by omega) dL_law_1323 rfl ((sp_thrown hg W3 ?_))
  rw [e4]
  refine nd_iload hC dL_law_1326 rfl ?_
  refine nd_icmp_eq hC (tgt := 1333) dL_law_1328 (by decide) (fun _ => ?_) (fun hq => absurd rfl hq)
  have FIN : nd_W g mL_law d mc ms K X 2729 (lw_lv i) [] h3 (cs + 2000) (ss + 81000) := k (op_evening (xs (i + 1)) (xs (i + 2)) S).2.2 h3 ⟨hok, I2.o101 W3.1.1 (fun a z => W3.1.2 a (by omega)), by rw [W3.1.1]; omega, ⟨ov2, (W3.1.2 122 (by omega)).trans o2⟩, A2, F2, B2, M3, W3.re (fun _ _ _ => rfl)⟩
  have h3o := (W3.1.2 122 (by omega)).trans o2
  refine nd_iload hC dL_law_1333 rfl ?_
  by_cases hz : (op_evening (xs (i + 1)) (xs (i + 2)) S).1 = 0
  · have v3 : ov2 0 = (op_evening (xs (i + 1)) (xs (i + 2)) S).2.1.toInt64 := v2 hz
    rw [show ((mp_i (op_evening (xs (i + 1)) (xs (i + 2)))) S).1 = 0 from hz]
    refine nd_if_ne hC (tgt := 1350) dL_law_1335 (by decide) (fun hq => absurd rfl hq) (fun _ => ?_)
    refine nd_aload_n hC dL_law_1338 rfl rfl ?_
    refine nd_iconst hC (v := nI 0) (by rfl) dL_law_1339 ?_
    refine nd_laloadN hC h3o (by omega) (by omega) dL_law_1340 ?_
    refine nd_iload hC dL_law_1341 rfl ?_
    first | with_reducible refine nd_i2lN hC (by omega) dL_law_1343 ?_ | refine nd_i2l hC dL_law_1343 ?_
    refine nd_lcmp_eq hC (tgt := 1350) dL_law_1344 dL_law_1345 (by decide) (fun _ => ?_) (fun hq => absurd v3 hq)
    refine nd_goto hC (tgt := 2729) dL_law_1350 (by decide) ?_
    refine nd_drop 5 (nd_drop 6 ?_)
    exact nd_widen (by omega) (by omega) FIN
  · refine nd_if_ne hC (tgt := 1350) dL_law_1335 (by decide) (fun _ => ?_) (fun hq => absurd (lw_nz hbd (by omega) hz hq) id)
    refine nd_goto hC (tgt := 2729) dL_law_1350 (by decide) ?_
    refine nd_drop 5 (nd_drop 6 ?_)
    exact nd_widen (by omega) (by omega) FIN
theorem lc_21 (hg : nd_OK g) (hd : 1100 ≤ d) (hC : nd_Cx g mL_law X) (hx : sc_X g L xs) (hi : i + 6 ≤ L) (hL : L ≤ 384) (hn : n ≤ 64) (HI : lw_I n S h) (hcs : cs + 2000 ≤ mc) (hss : ss + 81000 ≤ ms) (k : ∀ S2 h2, lw_I (n + 1) S2 h2 → nd_W g mL_law d mc ms K X 2729 (lw_lv i) [] h2 (cs + 2000) (ss + 81000)) : nd_W g mL_law d mc ms K X 1353 (lw_lv i) [] h cs ss := by
  obtain ⟨hS, hI, hl, ⟨ov, hov⟩, A, F, B, hM, hW⟩ := id HI
  obtain ⟨⟨x0, hO⟩, -⟩ : (∃ x, cx_O h (nI (sy_b S).length) (nI (sy_fk S)) (sy_fp S) x) ∧ True := by
    obtain ⟨-, o, nap, ds, gi, dss, hK⟩ := hI
    exact ⟨hK.1, trivial⟩
  unfold cx_O at hO
  have hok : sy_ok (op_rows (xs (i + 1)) S).2.2 := by
    unfold op_rows
    repeat' split
    all_goals exact hS
  unfold lw_lv
  refine nd_aload_n hC dL_law_1353 rfl rfl ?_
  refine nd_aload_n hC dL_law_1354 rfl rfl ?_
  refine nd_iload hC dL_law_1355 rfl ?_
  refine nd_iconst hC (v := nI 1) (by rfl) dL_law_1357 ?_
  first | with_reducible refine nd_iaddN hC dL_law_1358 ?_ | refine nd_iadd hC dL_law_1358 ?_
  refine nd_sald (j := i + 1) hC hx (by omega) (by omega) dL_law_1359 ?_
  refine nd_aload_n hC dL_law_1360 rfl rfl ?_
  refine nd_callSX (mm2 := mX0_rows) (As := [_, _, _]) (mc2 := 4) (ms2 := 24) (d2 := d - 1) hC rfl lkL_219 lmX0_rows (Nat.le_of_ble_eq_true rfl) (by omega) rfl (by exact Nat.le_of_ble_eq_true rfl) (by omega) (by omega) dL_law_1361 rfl ((wx_rows hg (by omega) (xs (i + 1)) S h _ ov hS hI hl hov (fun h2 ov2 I2 l2 f2 o2 v2 => ?_)))
  have W2 : mo_W h2 A F B h2 := hW.re f2
  have hbd := wb_rows (xs (i + 1)) S
  refine nd_istore hC dL_law_1364 (Nat.le_of_ble_eq_true rfl) ?_
  refine nd_aload_n hC dL_law_1366 rfl rfl ?_
  refine nd_aload_n hC dL_law_1367 rfl rfl ?_
  refine nd_iload hC dL_law_1368 rfl ?_
  refine nd_iconst hC (v := nI 1) (by rfl) dL_law_1370 ?_
  first | with_reducible refine nd_iaddN hC dL_law_1371 ?_ | refine nd_iadd hC dL_law_1371 ?_
  refine nd_sald (j := i + 1) hC hx (by omega) (by omega) dL_law_1372 ?_
  refine nd_callV (mm2 := mX7_rows) (As := [_]) (mc2 := 0) (ms2 := 0) (d2 := d - 1) hC rfl lkL_221 ⟨rfl, lmX7_rows⟩ (W2.2.1) rfl (Nat.le_of_ble_eq_true rfl) (by omega) rfl (by exact Nat.le_of_ble_eq_true rfl) (by omega) (by omega) dL_law_1373 rfl ((mp_rows (h0 := h2) hg (by omega) (xs (i + 1)) (4 * n) S A F B h2 _ (by omega) hM hS W2 (fun A2 F2 B2 h3 M3 e4 W3 => ?_)))
  refine nd_istore hC dL_law_1376 (Nat.le_of_ble_eq_true rfl) ?_
  refine nd_aload_n hC dL_law_1378 rfl rfl ?_
  refine nd_callV (mm2 := mX7_thrown) (As := []) (mc2 := 0) (ms2 := 0) (d2 := d - 1) hC rfl lkL_151 ⟨rfl, lmX7_thrown⟩ (W3.2.1) rfl (Nat.le_of_ble_eq_true rfl) (by omega) rfl (by exact Nat.le_of_ble_eq_true rfl) (by omega) (by omega) dL_law_1379 rfl ((sp_thrown hg W3 ?_))
  rw [e4]
  refine nd_iload hC dL_law_1382 rfl ?_
  refine nd_icmp_eq hC (tgt := 1389) dL_law_1384 (by decide) (fun _ => ?_) (fun hq => absurd rfl hq)
  have FIN : nd_W g mL_law d mc ms K X 2729 (lw_lv i) [] h3 (cs + 2000) (ss + 81000) := k (op_rows (xs (i + 1)) S).2.2 h3 ⟨hok, I2.o101 W3.1.1 (fun a z => W3.1.2 a (by omega)), by rw [W3.1.1]; omega, ⟨ov2, (W3.1.2 122 (by omega)).trans o2⟩, A2, F2, B2, M3, W3.re (fun _ _ _ => rfl)⟩
  have h3o := (W3.1.2 122 (by omega)).trans o2
  refine nd_iload hC dL_law_1389 rfl ?_
  by_cases hz : (op_rows (xs (i + 1)) S).1 = 0
  · have v3 : ov2 0 = (op_rows (xs (i + 1)) S).2.1.toInt64 := v2 hz
    rw [show ((mp_i (op_rows (xs (i + 1)))) S).1 = 0 from hz]
    refine nd_if_ne hC (tgt := 1406) dL_law_1391 (by decide) (fun hq => absurd rfl hq) (fun _ => ?_)
    refine nd_aload_n hC dL_law_1394 rfl rfl ?_
    refine nd_iconst hC (v := nI 0) (by rfl) dL_law_1395 ?_
    refine nd_laloadN hC h3o (by omega) (by omega) dL_law_1396 ?_
    refine nd_iload hC dL_law_1397 rfl ?_
    first | with_reducible refine nd_i2lN hC (by omega) dL_law_1399 ?_ | refine nd_i2l hC dL_law_1399 ?_
    refine nd_lcmp_eq hC (tgt := 1406) dL_law_1400 dL_law_1401 (by decide) (fun _ => ?_) (fun hq => absurd v3 hq)
    refine nd_goto hC (tgt := 2729) dL_law_1406 (by decide) ?_
    refine nd_drop 5 (nd_drop 6 ?_)
    exact nd_widen (by omega) (by omega) FIN
  · refine nd_if_ne hC (tgt := 1406) dL_law_1391 (by decide) (fun _ => ?_) (fun hq => absurd (lw_nz hbd (by omega) hz hq) id)
    refine nd_goto hC (tgt := 2729) dL_law_1406 (by decide) ?_
    refine nd_drop 5 (nd_drop 6 ?_)
    exact nd_widen (by omega) (by omega) FIN
theorem lc_22 (hg : nd_OK g) (hd : 1100 ≤ d) (hC : nd_Cx g mL_law X) (hx : sc_X g L xs) (hi : i + 6 ≤ L) (hL : L ≤ 384) (hn : n ≤ 64) (HI : lw_I n S h) (hcs : cs + 2000 ≤ mc) (hss : ss + 81000 ≤ ms) (k : ∀ S2 h2, lw_I (n + 1) S2 h2 → nd_W g mL_law d mc ms K X 2729 (lw_lv i) [] h2 (cs + 2000) (ss + 81000)) : nd_W g mL_law d mc ms K X 1409 (lw_lv i) [] h cs ss := by
  obtain ⟨hS, hI, hl, ⟨ov, hov⟩, A, F, B, hM, hW⟩ := id HI
  obtain ⟨⟨x0, hO⟩, -⟩ : (∃ x, cx_O h (nI (sy_b S).length) (nI (sy_fk S)) (sy_fp S) x) ∧ True := by
    obtain ⟨-, o, nap, ds, gi, dss, hK⟩ := hI
    exact ⟨hK.1, trivial⟩
  unfold cx_O at hO
  have hok : sy_ok (op_looks (xs (i + 1)) S).2.2 := by
    unfold op_looks op_many
    repeat' split
    all_goals exact hS
  unfold lw_lv
  refine nd_aload_n hC dL_law_1409 rfl rfl ?_
  refine nd_aload_n hC dL_law_1410 rfl rfl ?_
  refine nd_iload hC dL_law_1411 rfl ?_
  refine nd_iconst hC (v := nI 1) (by rfl) dL_law_1413 ?_
  first | with_reducible refine nd_iaddN hC dL_law_1414 ?_ | refine nd_iadd hC dL_law_1414 ?_
  refine nd_sald (j := i + 1) hC hx (by omega) (by omega) dL_law_1415 ?_
  refine nd_aload_n hC dL_law_1416 rfl rfl ?_
  refine nd_callSX (mm2 := mX0_looks) (As := [_, _, _]) (mc2 := 1210) (ms2 := 80040) (d2 := d - 1) hC rfl lkL_222 lmX0_looks (Nat.le_of_ble_eq_true rfl) (by omega) rfl (by exact Nat.le_of_ble_eq_true rfl) (by omega) (by omega) dL_law_1417 rfl ((wx_looks hg (by omega) (xs (i + 1)) S h _ ov hS hI hl hov (fun h2 ov2 I2 l2 f2 o2 v2 => ?_)))
  have W2 : mo_W h2 A F B h2 := hW.re f2
  have hbd := wb_looks (xs (i + 1)) S
  refine nd_istore hC dL_law_1420 (Nat.le_of_ble_eq_true rfl) ?_
  refine nd_aload_n hC dL_law_1422 rfl rfl ?_
  refine nd_aload_n hC dL_law_1423 rfl rfl ?_
  refine nd_iload hC dL_law_1424 rfl ?_
  refine nd_iconst hC (v := nI 1) (by rfl) dL_law_1426 ?_
  first | with_reducible refine nd_iaddN hC dL_law_1427 ?_ | refine nd_iadd hC dL_law_1427 ?_
  refine nd_sald (j := i + 1) hC hx (by omega) (by omega) dL_law_1428 ?_
  refine nd_callV (mm2 := mX7_looks) (As := [_]) (mc2 := 0) (ms2 := 0) (d2 := d - 1) hC rfl lkL_224 ⟨rfl, lmX7_looks⟩ (W2.2.1) rfl (Nat.le_of_ble_eq_true rfl) (by omega) rfl (by exact Nat.le_of_ble_eq_true rfl) (by omega) (by omega) dL_law_1429 rfl ((mp_looks (h0 := h2) hg (by omega) (xs (i + 1)) (4 * n) S A F B h2 _ (by omega) hM hS W2 (fun A2 F2 B2 h3 M3 e4 W3 => ?_)))
  refine nd_istore hC dL_law_1432 (Nat.le_of_ble_eq_true rfl) ?_
  refine nd_aload_n hC dL_law_1434 rfl rfl ?_
  refine nd_callV (mm2 := mX7_thrown) (As := []) (mc2 := 0) (ms2 := 0) (d2 := d - 1) hC rfl lkL_151 ⟨rfl, lmX7_thrown⟩ (W3.2.1) rfl (Nat.le_of_ble_eq_true rfl) (by omega) rfl (by exact Nat.le_of_ble_eq_true rfl) (by omega) (by omega) dL_law_1435 rfl ((sp_thrown hg W3 ?_))
  rw [e4]
  refine nd_iload hC dL_law_1438 rfl ?_
  refine nd_icmp_eq hC (tgt := 1445) dL_law_1440 (by decide) (fun _ => ?_) (fun hq => absurd rfl hq)
  have FIN : nd_W g mL_law d mc ms K X 2729 (lw_lv i) [] h3 (cs + 2000) (ss + 81000) := k (op_looks (xs (i + 1)) S).2.2 h3 ⟨hok, I2.o101 W3.1.1 (fun a z => W3.1.2 a (by omega)), by rw [W3.1.1]; omega, ⟨ov2, (W3.1.2 122 (by omega)).trans o2⟩, A2, F2, B2, M3, W3.re (fun _ _ _ => rfl)⟩
  have h3o := (W3.1.2 122 (by omega)).trans o2
  refine nd_iload hC dL_law_1445 rfl ?_
  by_cases hz : (op_looks (xs (i + 1)) S).1 = 0
  · have v3 : ov2 0 = (op_looks (xs (i + 1)) S).2.1.toInt64 := v2 hz
    rw [show ((mp_i (op_looks (xs (i + 1)))) S).1 = 0 from hz]
    refine nd_if_ne hC (tgt := 1462) dL_law_1447 (by decide) (fun hq => absurd rfl hq) (fun _ => ?_)
    refine nd_aload_n hC dL_law_1450 rfl rfl ?_
    refine nd_iconst hC (v := nI 0) (by rfl) dL_law_1451 ?_
    refine nd_laloadN hC h3o (by omega) (by omega) dL_law_1452 ?_
    refine nd_iload hC dL_law_1453 rfl ?_
    first | with_reducible refine nd_i2lN hC (by omega) dL_law_1455 ?_ | refine nd_i2l hC dL_law_1455 ?_
    refine nd_lcmp_eq hC (tgt := 1462) dL_law_1456 dL_law_1457 (by decide) (fun _ => ?_) (fun hq => absurd v3 hq)
    refine nd_goto hC (tgt := 2729) dL_law_1462 (by decide) ?_
    refine nd_drop 5 (nd_drop 6 ?_)
    exact nd_widen (by omega) (by omega) FIN
  · refine nd_if_ne hC (tgt := 1462) dL_law_1447 (by decide) (fun _ => ?_) (fun hq => absurd (lw_nz hbd (by omega) hz hq) id)
    refine nd_goto hC (tgt := 2729) dL_law_1462 (by decide) ?_
    refine nd_drop 5 (nd_drop 6 ?_)
    exact nd_widen (by omega) (by omega) FIN
theorem lc_23 (hg : nd_OK g) (hd : 1100 ≤ d) (hC : nd_Cx g mL_law X) (hx : sc_X g L xs) (hi : i + 6 ≤ L) (hL : L ≤ 384) (hn : n ≤ 64) (HI : lw_I n S h) (hcs : cs + 2000 ≤ mc) (hss : ss + 81000 ≤ ms) (k : ∀ S2 h2, lw_I (n + 1) S2 h2 → nd_W g mL_law d mc ms K X 2729 (lw_lv i) [] h2 (cs + 2000) (ss + 81000)) : nd_W g mL_law d mc ms K X 1465 (lw_lv i) [] h cs ss := by
  obtain ⟨hS, hI, hl, ⟨ov, hov⟩, A, F, B, hM, hW⟩ := id HI
  obtain ⟨⟨x0, hO⟩, -⟩ : (∃ x, cx_O h (nI (sy_b S).length) (nI (sy_fk S)) (sy_fp S) x) ∧ True := by
    obtain ⟨-, o, nap, ds, gi, dss, hK⟩ := hI
    exact ⟨hK.1, trivial⟩
  unfold cx_O at hO
  have hok : sy_ok (op_soonest (xs (i + 1)) S).2.2 := by
    unfold op_soonest
    repeat' split
    all_goals exact hS
  unfold lw_lv
  refine nd_aload_n hC dL_law_1465 rfl rfl ?_
  refine nd_aload_n hC dL_law_1466 rfl rfl ?_
  refine nd_iload hC dL_law_1467 rfl ?_
  refine nd_iconst hC (v := nI 1) (by rfl) dL_law_1469 ?_
  first | with_reducible refine nd_iaddN hC dL_law_1470 ?_ | refine nd_iadd hC dL_law_1470 ?_
  refine nd_sald (j := i + 1) hC hx (by omega) (by omega) dL_law_1471 ?_
  refine nd_aload_n hC dL_law_1472 rfl rfl ?_
  refine nd_callSX (mm2 := mX0_soonest) (As := [_, _, _]) (mc2 := 6) (ms2 := 40) (d2 := d - 1) hC rfl lkL_225 lmX0_soonest (Nat.le_of_ble_eq_true rfl) (by omega) rfl (by exact Nat.le_of_ble_eq_true rfl) (by omega) (by omega) dL_law_1473 rfl ((wx_soonest hg (by omega) (xs (i + 1)) S h _ ov hS hI hl hov (fun h2 ov2 I2 l2 f2 o2 v2 => ?_)))
  have W2 : mo_W h2 A F B h2 := hW.re f2
  have hbd := wb_soonest (xs (i + 1)) S
  refine nd_istore hC dL_law_1476 (Nat.le_of_ble_eq_true rfl) ?_
  refine nd_aload_n hC dL_law_1478 rfl rfl ?_
  refine nd_aload_n hC dL_law_1479 rfl rfl ?_
  refine nd_iload hC dL_law_1480 rfl ?_
  refine nd_iconst hC (v := nI 1) (by rfl) dL_law_1482 ?_
  first | with_reducible refine nd_iaddN hC dL_law_1483 ?_ | refine nd_iadd hC dL_law_1483 ?_
  refine nd_sald (j := i + 1) hC hx (by omega) (by omega) dL_law_1484 ?_
  refine nd_callV (mm2 := mX7_soonest) (As := [_]) (mc2 := 0) (ms2 := 0) (d2 := d - 1) hC rfl lkL_227 ⟨rfl, lmX7_soonest⟩ (W2.2.1) rfl (Nat.le_of_ble_eq_true rfl) (by omega) rfl (by exact Nat.le_of_ble_eq_true rfl) (by omega) (by omega) dL_law_1485 rfl ((mp_soonest (h0 := h2) hg (by omega) (xs (i + 1)) (4 * n) S A F B h2 _ (by omega) hM hS W2 (fun A2 F2 B2 h3 M3 e4 W3 => ?_)))
  refine nd_istore hC dL_law_1488 (Nat.le_of_ble_eq_true rfl) ?_
  refine nd_aload_n hC dL_law_1490 rfl rfl ?_
  refine nd_callV (mm2 := mX7_thrown) (As := []) (mc2 := 0) (ms2 := 0) (d2 := d - 1) hC rfl lkL_151 ⟨rfl, lmX7_thrown⟩ (W3.2.1) rfl (Nat.le_of_ble_eq_true rfl) (by omega) rfl (by exact Nat.le_of_ble_eq_true rfl) (by omega) (by omega) dL_law_1491 rfl ((sp_thrown hg W3 ?_))
  rw [e4]
  refine nd_iload hC dL_law_1494 rfl ?_
  refine nd_icmp_eq hC (tgt := 1501) dL_law_1496 (by decide) (fun _ => ?_) (fun hq => absurd rfl hq)
  have FIN : nd_W g mL_law d mc ms K X 2729 (lw_lv i) [] h3 (cs + 2000) (ss + 81000) := k (op_soonest (xs (i + 1)) S).2.2 h3 ⟨hok, I2.o101 W3.1.1 (fun a z => W3.1.2 a (by omega)), by rw [W3.1.1]; omega, ⟨ov2, (W3.1.2 122 (by omega)).trans o2⟩, A2, F2, B2, M3, W3.re (fun _ _ _ => rfl)⟩
  have h3o := (W3.1.2 122 (by omega)).trans o2
  refine nd_iload hC dL_law_1501 rfl ?_
  by_cases hz : (op_soonest (xs (i + 1)) S).1 = 0
  · have v3 : ov2 0 = (op_soonest (xs (i + 1)) S).2.1.toInt64 := v2 hz
    rw [show ((mp_i (op_soonest (xs (i + 1)))) S).1 = 0 from hz]
    refine nd_if_ne hC (tgt := 1518) dL_law_1503 (by decide) (fun hq => absurd rfl hq) (fun _ => ?_)
    refine nd_aload_n hC dL_law_1506 rfl rfl ?_
    refine nd_iconst hC (v := nI 0) (by rfl) dL_law_1507 ?_
    refine nd_laloadN hC h3o (by omega) (by omega) dL_law_1508 ?_
    refine nd_iload hC dL_law_1509 rfl ?_
    first | with_reducible refine nd_i2lN hC (by omega) dL_law_1511 ?_ | refine nd_i2l hC dL_law_1511 ?_
    refine nd_lcmp_eq hC (tgt := 1518) dL_law_1512 dL_law_1513 (by decide) (fun _ => ?_) (fun hq => absurd v3 hq)
    refine nd_goto hC (tgt := 2729) dL_law_1518 (by decide) ?_
    refine nd_drop 5 (nd_drop 6 ?_)
    exact nd_widen (by omega) (by omega) FIN
  · refine nd_if_ne hC (tgt := 1518) dL_law_1503 (by decide) (fun _ => ?_) (fun hq => absurd (lw_nz hbd (by omega) hz hq) id)
    refine nd_goto hC (tgt := 2729) dL_law_1518 (by decide) ?_
    refine nd_drop 5 (nd_drop 6 ?_)
    exact nd_widen (by omega) (by omega) FIN
theorem lc_24 (hg : nd_OK g) (hd : 1100 ≤ d) (hC : nd_Cx g mL_law X) (hx : sc_X g L xs) (hi : i + 6 ≤ L) (hL : L ≤ 384) (hn : n ≤ 64) (HI : lw_I n S h) (hcs : cs + 2000 ≤ mc) (hss : ss + 81000 ≤ ms) (k : ∀ S2 h2, lw_I (n + 1) S2 h2 → nd_W g mL_law d mc ms K X 2729 (lw_lv i) [] h2 (cs + 2000) (ss + 81000)) : nd_W g mL_law d mc ms K X 1521 (lw_lv i) [] h cs ss := by
  obtain ⟨hS, hI, hl, ⟨ov, hov⟩, A, F, B, hM, hW⟩ := id HI
  obtain ⟨⟨x0, hO⟩, -⟩ : (∃ x, cx_O h (nI (sy_b S).length) (nI (sy_fk S)) (sy_fp S) x) ∧ True := by
    obtain ⟨-, o, nap, ds, gi, dss, hK⟩ := hI
    exact ⟨hK.1, trivial⟩
  unfold cx_O at hO
  have hok : sy_ok (op_holding (xs (i + 1)) S).2.2 := by
    unfold op_holding op_many
    repeat' split
    all_goals exact hS
  unfold lw_lv
  refine nd_aload_n hC dL_law_1521 rfl rfl ?_
  refine nd_aload_n hC dL_law_1522 rfl rfl ?_
  refine nd_iload hC dL_law_1523 rfl ?_
  refine nd_iconst hC (v := nI 1) (by rfl) dL_law_1525 ?_
  first | with_reducible refine nd_iaddN hC dL_law_1526 ?_ | refine nd_iadd hC dL_law_1526 ?_
  refine nd_sald (j := i + 1) hC hx (by omega) (by omega) dL_law_1527 ?_
  refine nd_aload_n hC dL_law_1528 rfl rfl ?_
  refine nd_callSX (mm2 := mX0_holding) (As := [_, _, _]) (mc2 := 1210) (ms2 := 80040) (d2 := d - 1) hC rfl lkL_228 lmX0_holding (Nat.le_of_ble_eq_true rfl) (by omega) rfl (by exact Nat.le_of_ble_eq_true rfl) (by omega) (by omega) dL_law_1529 rfl ((wx_holding hg (by omega) (xs (i + 1)) S h _ ov hS hI hl hov (fun h2 ov2 I2 l2 f2 o2 v2 => ?_)))
  have W2 : mo_W h2 A F B h2 := hW.re f2
  have hbd := wb_holding (xs (i + 1)) S
  refine nd_istore hC dL_law_1532 (Nat.le_of_ble_eq_true rfl) ?_
  refine nd_aload_n hC dL_law_1534 rfl rfl ?_
  refine nd_aload_n hC dL_law_1535 rfl rfl ?_
  refine nd_iload hC dL_law_1536 rfl ?_
  refine nd_iconst hC (v := nI 1) (by rfl) dL_law_1538 ?_
  first | with_reducible refine nd_iaddN hC dL_law_1539 ?_ | refine nd_iadd hC dL_law_1539 ?_
  refine nd_sald (j := i + 1) hC hx (by omega) (by omega) dL_law_1540 ?_
  refine nd_callV (mm2 := mX7_holding) (As := [_]) (mc2 := 0) (ms2 := 0) (d2 := d - 1) hC rfl lkL_230 ⟨rfl, lmX7_holding⟩ (W2.2.1) rfl (Nat.le_of_ble_eq_true rfl) (by omega) rfl (by exact Nat.le_of_ble_eq_true rfl) (by omega) (by omega) dL_law_1541 rfl ((mp_holding (h0 := h2) hg (by omega) (xs (i + 1)) (4 * n) S A F B h2 _ (by omega) hM hS W2 (fun A2 F2 B2 h3 M3 e4 W3 => ?_)))
  refine nd_istore hC dL_law_1544 (Nat.le_of_ble_eq_true rfl) ?_
  refine nd_aload_n hC dL_law_1546 rfl rfl ?_
  refine nd_callV (mm2 := mX7_thrown) (As := []) (mc2 := 0) (ms2 := 0) (d2 := d - 1) hC rfl lkL_151 ⟨rfl, lmX7_thrown⟩ (W3.2.1) rfl (Nat.le_of_ble_eq_true rfl) (by omega) rfl (by exact Nat.le_of_ble_eq_true rfl) (by omega) (by omega) dL_law_1547 rfl ((sp_thrown hg W3 ?_))
  rw [e4]
  refine nd_iload hC dL_law_1550 rfl ?_
  refine nd_icmp_eq hC (tgt := 1557) dL_law_1552 (by decide) (fun _ => ?_) (fun hq => absurd rfl hq)
  have FIN : nd_W g mL_law d mc ms K X 2729 (lw_lv i) [] h3 (cs + 2000) (ss + 81000) := k (op_holding (xs (i + 1)) S).2.2 h3 ⟨hok, I2.o101 W3.1.1 (fun a z => W3.1.2 a (by omega)), by rw [W3.1.1]; omega, ⟨ov2, (W3.1.2 122 (by omega)).trans o2⟩, A2, F2, B2, M3, W3.re (fun _ _ _ => rfl)⟩
  have h3o := (W3.1.2 122 (by omega)).trans o2
  refine nd_iload hC dL_law_1557 rfl ?_
  by_cases hz : (op_holding (xs (i + 1)) S).1 = 0
  · have v3 : ov2 0 = (op_holding (xs (i + 1)) S).2.1.toInt64 := v2 hz
    rw [show ((mp_i (op_holding (xs (i + 1)))) S).1 = 0 from hz]
    refine nd_if_ne hC (tgt := 1574) dL_law_1559 (by decide) (fun hq => absurd rfl hq) (fun _ => ?_)
    refine nd_aload_n hC dL_law_1562 rfl rfl ?_
    refine nd_iconst hC (v := nI 0) (by rfl) dL_law_1563 ?_
    refine nd_laloadN hC h3o (by omega) (by omega) dL_law_1564 ?_
    refine nd_iload hC dL_law_1565 rfl ?_
    first | with_reducible refine nd_i2lN hC (by omega) dL_law_1567 ?_ | refine nd_i2l hC dL_law_1567 ?_
    refine nd_lcmp_eq hC (tgt := 1574) dL_law_1568 dL_law_1569 (by decide) (fun _ => ?_) (fun hq => absurd v3 hq)
    refine nd_goto hC (tgt := 2729) dL_law_1574 (by decide) ?_
    refine nd_drop 5 (nd_drop 6 ?_)
    exact nd_widen (by omega) (by omega) FIN
  · refine nd_if_ne hC (tgt := 1574) dL_law_1559 (by decide) (fun _ => ?_) (fun hq => absurd (lw_nz hbd (by omega) hz hq) id)
    refine nd_goto hC (tgt := 2729) dL_law_1574 (by decide) ?_
    refine nd_drop 5 (nd_drop 6 ?_)
    exact nd_widen (by omega) (by omega) FIN
theorem lc_25 (hg : nd_OK g) (hd : 1100 ≤ d) (hC : nd_Cx g mL_law X) (hx : sc_X g L xs) (hi : i + 6 ≤ L) (hL : L ≤ 384) (hn : n ≤ 64) (HI : lw_I n S h) (hcs : cs + 2000 ≤ mc) (hss : ss + 81000 ≤ ms) (k : ∀ S2 h2, lw_I (n + 1) S2 h2 → nd_W g mL_law d mc ms K X 2729 (lw_lv i) [] h2 (cs + 2000) (ss + 81000)) : nd_W g mL_law d mc ms K X 1577 (lw_lv i) [] h cs ss := by
  obtain ⟨hS, hI, hl, ⟨ov, hov⟩, A, F, B, hM, hW⟩ := id HI
  obtain ⟨⟨x0, hO⟩, -⟩ : (∃ x, cx_O h (nI (sy_b S).length) (nI (sy_fk S)) (sy_fp S) x) ∧ True := by
    obtain ⟨-, o, nap, ds, gi, dss, hK⟩ := hI
    exact ⟨hK.1, trivial⟩
  unfold cx_O at hO
  have hok : sy_ok (op_best (xs (i + 1)) (xs (i + 2)) S).2.2 := by
    unfold op_best op_bestBy
    repeat' split
    all_goals exact hS
  unfold lw_lv
  refine nd_aload_n hC dL_law_1577 rfl rfl ?_
  refine nd_aload_n hC dL_law_1578 rfl rfl ?_
  refine nd_iload hC dL_law_1579 rfl ?_
  refine nd_iconst hC (v := nI 1) (by rfl) dL_law_1581 ?_
  first | with_reducible refine nd_iaddN hC dL_law_1582 ?_ | refine nd_iadd hC dL_law_1582 ?_
  refine nd_sald (j := i + 1) hC hx (by omega) (by omega) dL_law_1583 ?_
  refine nd_aload_n hC dL_law_1584 rfl rfl ?_
  refine nd_iload hC dL_law_1585 rfl ?_
  refine nd_iconst hC (v := nI 2) (by rfl) dL_law_1587 ?_
  first | with_reducible refine nd_iaddN hC dL_law_1588 ?_ | refine nd_iadd hC dL_law_1588 ?_
  refine nd_sald (j := i + 2) hC hx (by omega) (by omega) dL_law_1589 ?_
  refine nd_aload_n hC dL_law_1590 rfl rfl ?_
  refine nd_callSX (mm2 := mX0_best) (As := [_, _, _, _]) (mc2 := 10) (ms2 := 60) (d2 := d - 1) hC rfl lkL_231 lmX0_best (Nat.le_of_ble_eq_true rfl) (by omega) rfl (by exact Nat.le_of_ble_eq_true rfl) (by omega) (by omega) dL_law_1591 rfl ((wx_best hg (by omega) (xs (i + 1)) (xs (i + 2)) S h _ ov hS hI hl hov (fun h2 ov2 I2 l2 f2 o2 v2 => ?_)))
  have W2 : mo_W h2 A F B h2 := hW.re f2
  have hbd := wb_best (xs (i + 1)) (xs (i + 2)) S
  refine nd_istore hC dL_law_1594 (Nat.le_of_ble_eq_true rfl) ?_
  refine nd_aload_n hC dL_law_1596 rfl rfl ?_
  refine nd_aload_n hC dL_law_1597 rfl rfl ?_
  refine nd_iload hC dL_law_1598 rfl ?_
  refine nd_iconst hC (v := nI 1) (by rfl) dL_law_1600 ?_
  first | with_reducible refine nd_iaddN hC dL_law_1601 ?_ | refine nd_iadd hC dL_law_1601 ?_
  refine nd_sald (j := i + 1) hC hx (by omega) (by omega) dL_law_1602 ?_
  refine nd_aload_n hC dL_law_1603 rfl rfl ?_
  refine nd_iload hC dL_law_1604 rfl ?_
  refine nd_iconst hC (v := nI 2) (by rfl) dL_law_1606 ?_
  first | with_reducible refine nd_iaddN hC dL_law_1607 ?_ | refine nd_iadd hC dL_law_1607 ?_
  refine nd_sald (j := i + 2) hC hx (by omega) (by omega) dL_law_1608 ?_
  refine nd_callV (mm2 := mX7_best) (As := [_, _]) (mc2 := 0) (ms2 := 0) (d2 := d - 1) hC rfl lkL_233 ⟨rfl, lmX7_best⟩ (W2.2.1) rfl (Nat.le_of_ble_eq_true rfl) (by omega) rfl (by exact Nat.le_of_ble_eq_true rfl) (by omega) (by omega) dL_law_1609 rfl ((mp_best (h0 := h2) hg (by omega) (xs (i + 1)) (xs (i + 2)) (4 * n) S A F B h2 _ (by omega) hM hS W2 (fun A2 F2 B2 h3 M3 e4 W3 => ?_)))
  refine nd_istore hC dL_law_1612 (Nat.le_of_ble_eq_true rfl) ?_
  refine nd_aload_n hC dL_law_1614 rfl rfl ?_
  refine nd_callV (mm2 := mX7_thrown) (As := []) (mc2 := 0) (ms2 := 0) (d2 := d - 1) hC rfl lkL_151 ⟨rfl, lmX7_thrown⟩ (W3.2.1) rfl (Nat.le_of_ble_eq_true rfl) (by omega) rfl (by exact Nat.le_of_ble_eq_true rfl) (by omega) (by omega) dL_law_1615 rfl ((sp_thrown hg W3 ?_))
  rw [e4]
  refine nd_iload hC dL_law_1618 rfl ?_
  refine nd_icmp_eq hC (tgt := 1625) dL_law_1620 (by decide) (fun _ => ?_) (fun hq => absurd rfl hq)
  have FIN : nd_W g mL_law d mc ms K X 2729 (lw_lv i) [] h3 (cs + 2000) (ss + 81000) := k (op_best (xs (i + 1)) (xs (i + 2)) S).2.2 h3 ⟨hok, I2.o101 W3.1.1 (fun a z => W3.1.2 a (by omega)), by rw [W3.1.1]; omega, ⟨ov2, (W3.1.2 122 (by omega)).trans o2⟩, A2, F2, B2, M3, W3.re (fun _ _ _ => rfl)⟩
  have h3o := (W3.1.2 122 (by omega)).trans o2
  refine nd_iload hC dL_law_1625 rfl ?_
  by_cases hz : (op_best (xs (i + 1)) (xs (i + 2)) S).1 = 0
  · have v3 : ov2 0 = (op_best (xs (i + 1)) (xs (i + 2)) S).2.1.toInt64 := v2 hz
    rw [show ((mp_i (op_best (xs (i + 1)) (xs (i + 2)))) S).1 = 0 from hz]
    refine nd_if_ne hC (tgt := 1642) dL_law_1627 (by decide) (fun hq => absurd rfl hq) (fun _ => ?_)
    refine nd_aload_n hC dL_law_1630 rfl rfl ?_
    refine nd_iconst hC (v := nI 0) (by rfl) dL_law_1631 ?_
    refine nd_laloadN hC h3o (by omega) (by omega) dL_law_1632 ?_
    refine nd_iload hC dL_law_1633 rfl ?_
    first | with_reducible refine nd_i2lN hC (by omega) dL_law_1635 ?_ | refine nd_i2l hC dL_law_1635 ?_
    refine nd_lcmp_eq hC (tgt := 1642) dL_law_1636 dL_law_1637 (by decide) (fun _ => ?_) (fun hq => absurd v3 hq)
    refine nd_goto hC (tgt := 2729) dL_law_1642 (by decide) ?_
    refine nd_drop 5 (nd_drop 6 ?_)
    exact nd_widen (by omega) (by omega) FIN
  · refine nd_if_ne hC (tgt := 1642) dL_law_1627 (by decide) (fun _ => ?_) (fun hq => absurd (lw_nz hbd (by omega) hz hq) id)
    refine nd_goto hC (tgt := 2729) dL_law_1642 (by decide) ?_
    refine nd_drop 5 (nd_drop 6 ?_)
    exact nd_widen (by omega) (by omega) FIN
theorem lc_26 (hg : nd_OK g) (hd : 1100 ≤ d) (hC : nd_Cx g mL_law X) (hx : sc_X g L xs) (hi : i + 6 ≤ L) (hL : L ≤ 384) (hn : n ≤ 64) (HI : lw_I n S h) (hcs : cs + 2000 ≤ mc) (hss : ss + 81000 ≤ ms) (k : ∀ S2 h2, lw_I (n + 1) S2 h2 → nd_W g mL_law d mc ms K X 2729 (lw_lv i) [] h2 (cs + 2000) (ss + 81000)) : nd_W g mL_law d mc ms K X 1645 (lw_lv i) [] h cs ss := by
  obtain ⟨hS, hI, hl, ⟨ov, hov⟩, A, F, B, hM, hW⟩ := id HI
  obtain ⟨⟨x0, hO⟩, -⟩ : (∃ x, cx_O h (nI (sy_b S).length) (nI (sy_fk S)) (sy_fp S) x) ∧ True := by
    obtain ⟨-, o, nap, ds, gi, dss, hK⟩ := hI
    exact ⟨hK.1, trivial⟩
  unfold cx_O at hO
  have hok : sy_ok (op_reads (xs (i + 1)) (xs (i + 2)) S).2.2 := by
    unfold op_reads
    repeat' split
    all_goals exact hS
  unfold lw_lv
  refine nd_aload_n hC dL_law_1645 rfl rfl ?_
  refine nd_aload_n hC dL_law_1646 rfl rfl ?_
  refine nd_iload hC dL_law_1647 rfl ?_
  refine nd_iconst hC (v := nI 1) (by rfl) dL_law_1649 ?_
  first | with_reducible refine nd_iaddN hC dL_law_1650 ?_ | refine nd_iadd hC dL_law_1650 ?_
  refine nd_sald (j := i + 1) hC hx (by omega) (by omega) dL_law_1651 ?_
  refine nd_aload_n hC dL_law_1652 rfl rfl ?_
  refine nd_iload hC dL_law_1653 rfl ?_
  refine nd_iconst hC (v := nI 2) (by rfl) dL_law_1655 ?_
  first | with_reducible refine nd_iaddN hC dL_law_1656 ?_ | refine nd_iadd hC dL_law_1656 ?_
  refine nd_sald (j := i + 2) hC hx (by omega) (by omega) dL_law_1657 ?_
  refine nd_aload_n hC dL_law_1658 rfl rfl ?_
  refine nd_callSX (mm2 := mX0_reads) (As := [_, _, _, _]) (mc2 := 12) (ms2 := 80) (d2 := d - 1) hC rfl lkL_234 lmX0_reads (Nat.le_of_ble_eq_true rfl) (by omega) rfl (by exact Nat.le_of_ble_eq_true rfl) (by omega) (by omega) dL_law_1659 rfl ((wx_reads hg (by omega) (xs (i + 1)) (xs (i + 2)) S h _ ov hS hI hl hov (fun h2 ov2 I2 l2 f2 o2 v2 => ?_)))
  have W2 : mo_W h2 A F B h2 := hW.re f2
  have hbd := wb_reads (xs (i + 1)) (xs (i + 2)) S
  refine nd_istore hC dL_law_1662 (Nat.le_of_ble_eq_true rfl) ?_
  refine nd_aload_n hC dL_law_1664 rfl rfl ?_
  refine nd_aload_n hC dL_law_1665 rfl rfl ?_
  refine nd_iload hC dL_law_1666 rfl ?_
  refine nd_iconst hC (v := nI 1) (by rfl) dL_law_1668 ?_
  first | with_reducible refine nd_iaddN hC dL_law_1669 ?_ | refine nd_iadd hC dL_law_1669 ?_
  refine nd_sald (j := i + 1) hC hx (by omega) (by omega) dL_law_1670 ?_
  refine nd_aload_n hC dL_law_1671 rfl rfl ?_
  refine nd_iload hC dL_law_1672 rfl ?_
  refine nd_iconst hC (v := nI 2) (by rfl) dL_law_1674 ?_
  first | with_reducible refine nd_iaddN hC dL_law_1675 ?_ | refine nd_iadd hC dL_law_1675 ?_
  refine nd_sald (j := i + 2) hC hx (by omega) (by omega) dL_law_1676 ?_
  refine nd_callV (mm2 := mX7_reads) (As := [_, _]) (mc2 := 0) (ms2 := 0) (d2 := d - 1) hC rfl lkL_236 ⟨rfl, lmX7_reads⟩ (W2.2.1) rfl (Nat.le_of_ble_eq_true rfl) (by omega) rfl (by exact Nat.le_of_ble_eq_true rfl) (by omega) (by omega) dL_law_1677 rfl ((mp_reads (h0 := h2) hg (by omega) (xs (i + 1)) (xs (i + 2)) (4 * n) S A F B h2 _ (by omega) hM hS W2 (fun A2 F2 B2 h3 M3 e4 W3 => ?_)))
  refine nd_istore hC dL_law_1680 (Nat.le_of_ble_eq_true rfl) ?_
  refine nd_aload_n hC dL_law_1682 rfl rfl ?_
  refine nd_callV (mm2 := mX7_thrown) (As := []) (mc2 := 0) (ms2 := 0) (d2 := d - 1) hC rfl lkL_151 ⟨rfl, lmX7_thrown⟩ (W3.2.1) rfl (Nat.le_of_ble_eq_true rfl) (by omega) rfl (by exact Nat.le_of_ble_eq_true rfl) (by omega) (by omega) dL_law_1683 rfl ((sp_thrown hg W3 ?_))
  rw [e4]
  refine nd_iload hC dL_law_1686 rfl ?_
  refine nd_icmp_eq hC (tgt := 1693) dL_law_1688 (by decide) (fun _ => ?_) (fun hq => absurd rfl hq)
  have FIN : nd_W g mL_law d mc ms K X 2729 (lw_lv i) [] h3 (cs + 2000) (ss + 81000) := k (op_reads (xs (i + 1)) (xs (i + 2)) S).2.2 h3 ⟨hok, I2.o101 W3.1.1 (fun a z => W3.1.2 a (by omega)), by rw [W3.1.1]; omega, ⟨ov2, (W3.1.2 122 (by omega)).trans o2⟩, A2, F2, B2, M3, W3.re (fun _ _ _ => rfl)⟩
  have h3o := (W3.1.2 122 (by omega)).trans o2
  refine nd_iload hC dL_law_1693 rfl ?_
  by_cases hz : (op_reads (xs (i + 1)) (xs (i + 2)) S).1 = 0
  · have v3 : ov2 0 = (op_reads (xs (i + 1)) (xs (i + 2)) S).2.1.toInt64 := v2 hz
    rw [show ((mp_i (op_reads (xs (i + 1)) (xs (i + 2)))) S).1 = 0 from hz]
    refine nd_if_ne hC (tgt := 1710) dL_law_1695 (by decide) (fun hq => absurd rfl hq) (fun _ => ?_)
    refine nd_aload_n hC dL_law_1698 rfl rfl ?_
    refine nd_iconst hC (v := nI 0) (by rfl) dL_law_1699 ?_
    refine nd_laloadN hC h3o (by omega) (by omega) dL_law_1700 ?_
    refine nd_iload hC dL_law_1701 rfl ?_
    first | with_reducible refine nd_i2lN hC (by omega) dL_law_1703 ?_ | refine nd_i2l hC dL_law_1703 ?_
    refine nd_lcmp_eq hC (tgt := 1710) dL_law_1704 dL_law_1705 (by decide) (fun _ => ?_) (fun hq => absurd v3 hq)
    refine nd_goto hC (tgt := 2729) dL_law_1710 (by decide) ?_
    refine nd_drop 5 (nd_drop 6 ?_)
    exact nd_widen (by omega) (by omega) FIN
  · refine nd_if_ne hC (tgt := 1710) dL_law_1695 (by decide) (fun _ => ?_) (fun hq => absurd (lw_nz hbd (by omega) hz hq) id)
    refine nd_goto hC (tgt := 2729) dL_law_1710 (by decide) ?_
    refine nd_drop 5 (nd_drop 6 ?_)
    exact nd_widen (by omega) (by omega) FIN
theorem lc_27 (hg : nd_OK g) (hd : 1100 ≤ d) (hC : nd_Cx g mL_law X) (hx : sc_X g L xs) (hi : i + 6 ≤ L) (hL : L ≤ 384) (hn : n ≤ 64) (HI : lw_I n S h) (hcs : cs + 2000 ≤ mc) (hss : ss + 81000 ≤ ms) (k : ∀ S2 h2, lw_I (n + 1) S2 h2 → nd_W g mL_law d mc ms K X 2729 (lw_lv i) [] h2 (cs + 2000) (ss + 81000)) : nd_W g mL_law d mc ms K X 1713 (lw_lv i) [] h cs ss := by
  obtain ⟨hS, hI, hl, ⟨ov, hov⟩, A, F, B, hM, hW⟩ := id HI
  obtain ⟨⟨x0, hO⟩, -⟩ : (∃ x, cx_O h (nI (sy_b S).length) (nI (sy_fk S)) (sy_fp S) x) ∧ True := by
    obtain ⟨-, o, nap, ds, gi, dss, hK⟩ := hI
    exact ⟨hK.1, trivial⟩
  unfold cx_O at hO
  have hok : sy_ok (op_step S).2.2 := by
    unfold op_step
    repeat' split
    all_goals exact hS
  unfold lw_lv
  refine nd_aload_n hC dL_law_1713 rfl rfl ?_
  have hz : (op_step S).1 = 0 := by
    unfold op_step
    repeat' split
    all_goals rfl
  refine nd_callV (mm2 := mX1_step) (As := []) (mc2 := 10) (ms2 := 60) (d2 := d - 1) hC rfl lkL_237 ⟨rfl, lmX1_step⟩ (hO) rfl (Nat.le_of_ble_eq_true rfl) (by omega) rfl (by exact Nat.le_of_ble_eq_true rfl) (by omega) (by omega) dL_law_1714 rfl ((cp_step hg (by omega)  S h _ hS hI hl (fun e0 h2 I2 f2 => ?_) (fun e0 => absurd hz e0)))
  have W2 : mo_W h2 A F B h2 := hW.re (fun a z1 z2 => f2.2 a z1 (by omega))
  refine nd_aload_n hC dL_law_1717 rfl rfl ?_
  refine nd_callV (mm2 := mX7_step) (As := []) (mc2 := 0) (ms2 := 0) (d2 := d - 1) hC rfl lkL_240 ⟨rfl, lmX7_step⟩ (W2.2.1) rfl (Nat.le_of_ble_eq_true rfl) (by omega) rfl (by exact Nat.le_of_ble_eq_true rfl) (by omega) (by omega) dL_law_1718 rfl ((mp_step (h0 := h2) hg (by omega)  (4 * n) S A F B h2 _ (by omega) hM hS W2 (fun A2 F2 B2 h3 M3 e4 W3 => ?_)))
  refine nd_icmp_eq hC (tgt := 2729) dL_law_1721 (by decide) (fun _ => ?_) (fun hq => absurd rfl hq)
  refine nd_widen (by omega) (by omega) (k (op_step S).2.2 h3 ⟨hok, I2.o101 W3.1.1 (fun a z => W3.1.2 a (by omega)), by rw [W3.1.1]; have := f2.1; omega, ⟨ov, (W3.1.2 122 (by omega)).trans ((f2.2 122 (by omega) (by omega)).trans hov)⟩, A2, F2, B2, M3, W3.re (fun _ _ _ => rfl)⟩)
theorem lc_28 (hg : nd_OK g) (hd : 1100 ≤ d) (hC : nd_Cx g mL_law X) (hx : sc_X g L xs) (hi : i + 6 ≤ L) (hL : L ≤ 384) (hn : n ≤ 64) (HI : lw_I n S h) (hcs : cs + 2000 ≤ mc) (hss : ss + 81000 ≤ ms) (k : ∀ S2 h2, lw_I (n + 1) S2 h2 → nd_W g mL_law d mc ms K X 2729 (lw_lv i) [] h2 (cs + 2000) (ss + 81000)) : nd_W g mL_law d mc ms K X 1726 (lw_lv i) [] h cs ss := by
  obtain ⟨hS, hI, hl, ⟨ov, hov⟩, A, F, B, hM, hW⟩ := id HI
  obtain ⟨⟨x0, hO⟩, -⟩ : (∃ x, cx_O h (nI (sy_b S).length) (nI (sy_fk S)) (sy_fp S) x) ∧ True := by
    obtain ⟨-, o, nap, ds, gi, dss, hK⟩ := hI
    exact ⟨hK.1, trivial⟩
  unfold cx_O at hO
  have hok : sy_ok (op_stands (xs (i + 1)) S).2.2 := by
    unfold op_stands
    repeat' split
    all_goals exact hS
  unfold lw_lv
  refine nd_aload_n hC dL_law_1726 rfl rfl ?_
  refine nd_aload_n hC dL_law_1727 rfl rfl ?_
  refine nd_iload hC dL_law_1728 rfl ?_
  refine nd_iconst hC (v := nI 1) (by rfl) dL_law_1730 ?_
  first | with_reducible refine nd_iaddN hC dL_law_1731 ?_ | refine nd_iadd hC dL_law_1731 ?_
  refine nd_sald (j := i + 1) hC hx (by omega) (by omega) dL_law_1732 ?_
  refine nd_aload_n hC dL_law_1733 rfl rfl ?_
  refine nd_callSX (mm2 := mX0_stands) (As := [_, _, _]) (mc2 := 14) (ms2 := 90) (d2 := d - 1) hC rfl lkL_241 lmX0_stands (Nat.le_of_ble_eq_true rfl) (by omega) rfl (by exact Nat.le_of_ble_eq_true rfl) (by omega) (by omega) dL_law_1734 rfl ((wx_stands hg (by omega) (xs (i + 1)) S h _ ov hS hI hl hov (fun h2 ov2 I2 l2 f2 o2 v2 => ?_)))
  have W2 : mo_W h2 A F B h2 := hW.re f2
  have hbd := wb_stands (xs (i + 1)) S
  refine nd_istore hC dL_law_1737 (Nat.le_of_ble_eq_true rfl) ?_
  refine nd_aload_n hC dL_law_1739 rfl rfl ?_
  refine nd_aload_n hC dL_law_1740 rfl rfl ?_
  refine nd_iload hC dL_law_1741 rfl ?_
  refine nd_iconst hC (v := nI 1) (by rfl) dL_law_1743 ?_
  first | with_reducible refine nd_iaddN hC dL_law_1744 ?_ | refine nd_iadd hC dL_law_1744 ?_
  refine nd_sald (j := i + 1) hC hx (by omega) (by omega) dL_law_1745 ?_
  refine nd_callV (mm2 := mX7_stands) (As := [_]) (mc2 := 0) (ms2 := 0) (d2 := d - 1) hC rfl lkL_243 ⟨rfl, lmX7_stands⟩ (W2.2.1) rfl (Nat.le_of_ble_eq_true rfl) (by omega) rfl (by exact Nat.le_of_ble_eq_true rfl) (by omega) (by omega) dL_law_1746 rfl ((mp_stands (h0 := h2) hg (by omega) (xs (i + 1)) (4 * n) S A F B h2 _ (by omega) hM hS W2 (fun A2 F2 B2 h3 M3 e4 W3 => ?_)))
  refine nd_istore hC dL_law_1749 (Nat.le_of_ble_eq_true rfl) ?_
  refine nd_aload_n hC dL_law_1751 rfl rfl ?_
  refine nd_callV (mm2 := mX7_thrown) (As := []) (mc2 := 0) (ms2 := 0) (d2 := d - 1) hC rfl lkL_151 ⟨rfl, lmX7_thrown⟩ (W3.2.1) rfl (Nat.le_of_ble_eq_true rfl) (by omega) rfl (by exact Nat.le_of_ble_eq_true rfl) (by omega) (by omega) dL_law_1752 rfl ((sp_thrown hg W3 ?_))
  rw [e4]
  refine nd_iload hC dL_law_1755 rfl ?_
  refine nd_icmp_eq hC (tgt := 1762) dL_law_1757 (by decide) (fun _ => ?_) (fun hq => absurd rfl hq)
  have FIN : nd_W g mL_law d mc ms K X 2729 (lw_lv i) [] h3 (cs + 2000) (ss + 81000) := k (op_stands (xs (i + 1)) S).2.2 h3 ⟨hok, I2.o101 W3.1.1 (fun a z => W3.1.2 a (by omega)), by rw [W3.1.1]; omega, ⟨ov2, (W3.1.2 122 (by omega)).trans o2⟩, A2, F2, B2, M3, W3.re (fun _ _ _ => rfl)⟩
  have h3o := (W3.1.2 122 (by omega)).trans o2
  refine nd_iload hC dL_law_1762 rfl ?_
  by_cases hz : (op_stands (xs (i + 1)) S).1 = 0
  · have v3 : ov2 0 = (op_stands (xs (i + 1)) S).2.1.toInt64 := v2 hz
    obtain ⟨bv, hbv⟩ : ∃ b, (op_stands (xs (i + 1)) S).2.1 = nd_b b := by
      have e2 := hz
      unfold op_stands at e2 ⊢
      by_cases y : sk_f (xs (i + 1)) S = 0
      · rw [if_pos y]; exact ⟨_, rfl⟩
      · rw [if_neg y] at e2; exact absurd e2 y
    rw [show ((mp_i (op_stands (xs (i + 1)))) S).1 = 0 from hz]
    refine nd_if_ne hC (tgt := 1786) dL_law_1764 (by decide) (fun hq => absurd rfl hq) (fun _ => ?_)
    refine nd_aload_n hC dL_law_1767 rfl rfl ?_
    refine nd_iconst hC (v := nI 0) (by rfl) dL_law_1768 ?_
    refine nd_laloadN hC h3o (by omega) (by omega) dL_law_1769 ?_
    refine nd_iload hC dL_law_1770 rfl ?_
    rw [hbv] at v3 ⊢
    cases bv with
    | true =>
      refine nd_if_eqB hC (tgt := 1779) dL_law_1772 (by decide) (fun hq => absurd hq (by decide)) (fun _ => ?_)
      refine nd_lconst hC (v := lN 1) (by rfl) dL_law_1775 ?_
      refine nd_goto hC (tgt := 1780) dL_law_1776 (by decide) ?_
      refine nd_lcmp_eq hC (tgt := 1786) dL_law_1780 dL_law_1781 (by decide) (fun _ => ?_) (fun hq => absurd (v3.trans (by rfl)) hq)
      refine nd_goto hC (tgt := 2729) dL_law_1786 (by decide) ?_
      refine nd_drop 5 (nd_drop 6 ?_)
      exact nd_widen (by omega) (by omega) FIN
    | false =>
      refine nd_if_eqB hC (tgt := 1779) dL_law_1772 (by decide) (fun _ => ?_) (fun hq => absurd hq (by decide))
      refine nd_lconst hC (v := lN 0) (by rfl) dL_law_1779 ?_
      refine nd_lcmp_eq hC (tgt := 1786) dL_law_1780 dL_law_1781 (by decide) (fun _ => ?_) (fun hq => absurd (v3.trans (by rfl)) hq)
      refine nd_goto hC (tgt := 2729) dL_law_1786 (by decide) ?_
      refine nd_drop 5 (nd_drop 6 ?_)
      exact nd_widen (by omega) (by omega) FIN
  · refine nd_if_ne hC (tgt := 1786) dL_law_1764 (by decide) (fun _ => ?_) (fun hq => absurd (lw_nz hbd (by omega) hz hq) id)
    refine nd_goto hC (tgt := 2729) dL_law_1786 (by decide) ?_
    refine nd_drop 5 (nd_drop 6 ?_)
    exact nd_widen (by omega) (by omega) FIN
theorem lc_29 (hg : nd_OK g) (hd : 1100 ≤ d) (hC : nd_Cx g mL_law X) (hx : sc_X g L xs) (hi : i + 6 ≤ L) (hL : L ≤ 384) (hn : n ≤ 64) (HI : lw_I n S h) (hcs : cs + 2000 ≤ mc) (hss : ss + 81000 ≤ ms) (k : ∀ S2 h2, lw_I (n + 1) S2 h2 → nd_W g mL_law d mc ms K X 2729 (lw_lv i) [] h2 (cs + 2000) (ss + 81000)) : nd_W g mL_law d mc ms K X 1789 (lw_lv i) [] h cs ss := by
  obtain ⟨hS, hI, hl, ⟨ov, hov⟩, A, F, B, hM, hW⟩ := id HI
  obtain ⟨⟨x0, hO⟩, -⟩ : (∃ x, cx_O h (nI (sy_b S).length) (nI (sy_fk S)) (sy_fp S) x) ∧ True := by
    obtain ⟨-, o, nap, ds, gi, dss, hK⟩ := hI
    exact ⟨hK.1, trivial⟩
  unfold cx_O at hO
  have hok : sy_ok (op_stacks S).2.2 := by
    unfold op_stacks
    repeat' split
    all_goals exact hS
  unfold lw_lv
  refine nd_aload_n hC dL_law_1789 rfl rfl ?_
  have hz : (op_stacks S).1 = 0 := by
    unfold op_stacks
    repeat' split
    all_goals rfl
  refine nd_callV (mm2 := mX1_stacks) (As := []) (mc2 := 730) (ms2 := 4400) (d2 := d - 1) hC rfl lkL_244 ⟨rfl, lmX1_stacks⟩ (hO) rfl (Nat.le_of_ble_eq_true rfl) (by omega) rfl (by exact Nat.le_of_ble_eq_true rfl) (by omega) (by omega) dL_law_1790 rfl ((cp_stacks hg (by omega)  S h _ hS hI hl (fun e0 h2 I2 f2 => ?_) (fun e0 => absurd hz e0)))
  have W2 : mo_W h2 A F B h2 := hW.re (fun a z1 z2 => f2.2 a z1 (by omega))
  refine nd_aload_n hC dL_law_1793 rfl rfl ?_
  refine nd_callV (mm2 := mX7_stacks) (As := []) (mc2 := 0) (ms2 := 0) (d2 := d - 1) hC rfl lkL_247 ⟨rfl, lmX7_stacks⟩ (W2.2.1) rfl (Nat.le_of_ble_eq_true rfl) (by omega) rfl (by exact Nat.le_of_ble_eq_true rfl) (by omega) (by omega) dL_law_1794 rfl ((mp_stacks (h0 := h2) hg (by omega)  (4 * n) S A F B h2 _ (by omega) hM hS W2 (fun A2 F2 B2 h3 M3 e4 W3 => ?_)))
  refine nd_icmp_eq hC (tgt := 2729) dL_law_1797 (by decide) (fun _ => ?_) (fun hq => absurd rfl hq)
  refine nd_widen (by omega) (by omega) (k (op_stacks S).2.2 h3 ⟨hok, I2.o101 W3.1.1 (fun a z => W3.1.2 a (by omega)), by rw [W3.1.1]; have := f2.1; omega, ⟨ov, (W3.1.2 122 (by omega)).trans ((f2.2 122 (by omega) (by omega)).trans hov)⟩, A2, F2, B2, M3, W3.re (fun _ _ _ => rfl)⟩)
theorem lc_30 (hg : nd_OK g) (hd : 1100 ≤ d) (hC : nd_Cx g mL_law X) (hx : sc_X g L xs) (hi : i + 6 ≤ L) (hL : L ≤ 384) (hn : n ≤ 64) (HI : lw_I n S h) (hcs : cs + 2000 ≤ mc) (hss : ss + 81000 ≤ ms) (k : ∀ S2 h2, lw_I (n + 1) S2 h2 → nd_W g mL_law d mc ms K X 2729 (lw_lv i) [] h2 (cs + 2000) (ss + 81000)) : nd_W g mL_law d mc ms K X 1802 (lw_lv i) [] h cs ss := by
  obtain ⟨hS, hI, hl, ⟨ov, hov⟩, A, F, B, hM, hW⟩ := id HI
  obtain ⟨⟨x0, hO⟩, -⟩ : (∃ x, cx_O h (nI (sy_b S).length) (nI (sy_fk S)) (sy_fp S) x) ∧ True := by
    obtain ⟨-, o, nap, ds, gi, dss, hK⟩ := hI
    exact ⟨hK.1, trivial⟩
  unfold cx_O at hO
  have hok : sy_ok (op_stack (xs (i + 1)) S).2.2 := by
    unfold op_stack
    repeat' split
    all_goals exact hS
  unfold lw_lv
  refine nd_aload_n hC dL_law_1802 rfl rfl ?_
  refine nd_aload_n hC dL_law_1803 rfl rfl ?_
  refine nd_iload hC dL_law_1804 rfl ?_
  refine nd_iconst hC (v := nI 1) (by rfl) dL_law_1806 ?_
  first | with_reducible refine nd_iaddN hC dL_law_1807 ?_ | refine nd_iadd hC dL_law_1807 ?_
  refine nd_sald (j := i + 1) hC hx (by omega) (by omega) dL_law_1808 ?_
  refine nd_aload_n hC dL_law_1809 rfl rfl ?_
  refine nd_callSX (mm2 := mX0_stack) (As := [_, _, _]) (mc2 := 20) (ms2 := 120) (d2 := d - 1) hC rfl lkL_248 lmX0_stack (Nat.le_of_ble_eq_true rfl) (by omega) rfl (by exact Nat.le_of_ble_eq_true rfl) (by omega) (by omega) dL_law_1810 rfl ((wx_stack hg (by omega) (xs (i + 1)) S h _ ov hS hI hl hov (fun h2 ov2 I2 l2 f2 o2 v2 => ?_)))
  have W2 : mo_W h2 A F B h2 := hW.re f2
  have hbd := wb_stack (xs (i + 1)) S
  refine nd_istore hC dL_law_1813 (Nat.le_of_ble_eq_true rfl) ?_
  refine nd_aload_n hC dL_law_1815 rfl rfl ?_
  refine nd_aload_n hC dL_law_1816 rfl rfl ?_
  refine nd_iload hC dL_law_1817 rfl ?_
  refine nd_iconst hC (v := nI 1) (by rfl) dL_law_1819 ?_
  first | with_reducible refine nd_iaddN hC dL_law_1820 ?_ | refine nd_iadd hC dL_law_1820 ?_
  refine nd_sald (j := i + 1) hC hx (by omega) (by omega) dL_law_1821 ?_
  refine nd_callV (mm2 := mX7_stack) (As := [_]) (mc2 := 0) (ms2 := 0) (d2 := d - 1) hC rfl lkL_250 ⟨rfl, lmX7_stack⟩ (W2.2.1) rfl (Nat.le_of_ble_eq_true rfl) (by omega) rfl (by exact Nat.le_of_ble_eq_true rfl) (by omega) (by omega) dL_law_1822 rfl ((mp_stack (h0 := h2) hg (by omega) (xs (i + 1)) (4 * n) S A F B h2 _ (by omega) hM hS W2 (fun A2 F2 B2 h3 M3 e4 W3 => ?_)))
  refine nd_istore hC dL_law_1825 (Nat.le_of_ble_eq_true rfl) ?_
  refine nd_aload_n hC dL_law_1827 rfl rfl ?_
  refine nd_callV (mm2 := mX7_thrown) (As := []) (mc2 := 0) (ms2 := 0) (d2 := d - 1) hC rfl lkL_151 ⟨rfl, lmX7_thrown⟩ (W3.2.1) rfl (Nat.le_of_ble_eq_true rfl) (by omega) rfl (by exact Nat.le_of_ble_eq_true rfl) (by omega) (by omega) dL_law_1828 rfl ((sp_thrown hg W3 ?_))
  rw [e4]
  refine nd_iload hC dL_law_1831 rfl ?_
  refine nd_icmp_eq hC (tgt := 1838) dL_law_1833 (by decide) (fun _ => ?_) (fun hq => absurd rfl hq)
  have FIN : nd_W g mL_law d mc ms K X 2729 (lw_lv i) [] h3 (cs + 2000) (ss + 81000) := k (op_stack (xs (i + 1)) S).2.2 h3 ⟨hok, I2.o101 W3.1.1 (fun a z => W3.1.2 a (by omega)), by rw [W3.1.1]; omega, ⟨ov2, (W3.1.2 122 (by omega)).trans o2⟩, A2, F2, B2, M3, W3.re (fun _ _ _ => rfl)⟩
  have h3o := (W3.1.2 122 (by omega)).trans o2
  refine nd_iload hC dL_law_1838 rfl ?_
  by_cases hz : (op_stack (xs (i + 1)) S).1 = 0
  · have v3 : ov2 0 = (op_stack (xs (i + 1)) S).2.1.toInt64 := v2 hz
    rw [show ((mp_i (op_stack (xs (i + 1)))) S).1 = 0 from hz]
    refine nd_if_ne hC (tgt := 1855) dL_law_1840 (by decide) (fun hq => absurd rfl hq) (fun _ => ?_)
    refine nd_aload_n hC dL_law_1843 rfl rfl ?_
    refine nd_iconst hC (v := nI 0) (by rfl) dL_law_1844 ?_
    refine nd_laloadN hC h3o (by omega) (by omega) dL_law_1845 ?_
    refine nd_iload hC dL_law_1846 rfl ?_
    first | with_reducible refine nd_i2lN hC (by omega) dL_law_1848 ?_ | refine nd_i2l hC dL_law_1848 ?_
    refine nd_lcmp_eq hC (tgt := 1855) dL_law_1849 dL_law_1850 (by decide) (fun _ => ?_) (fun hq => absurd v3 hq)
    refine nd_goto hC (tgt := 2729) dL_law_1855 (by decide) ?_
    refine nd_drop 5 (nd_drop 6 ?_)
    exact nd_widen (by omega) (by omega) FIN
  · refine nd_if_ne hC (tgt := 1855) dL_law_1840 (by decide) (fun _ => ?_) (fun hq => absurd (lw_nz hbd (by omega) hz hq) id)
    refine nd_goto hC (tgt := 2729) dL_law_1855 (by decide) ?_
    refine nd_drop 5 (nd_drop 6 ?_)
    exact nd_widen (by omega) (by omega) FIN
theorem lc_31 (hg : nd_OK g) (hd : 1100 ≤ d) (hC : nd_Cx g mL_law X) (hx : sc_X g L xs) (hi : i + 6 ≤ L) (hL : L ≤ 384) (hn : n ≤ 64) (HI : lw_I n S h) (hcs : cs + 2000 ≤ mc) (hss : ss + 81000 ≤ ms) (k : ∀ S2 h2, lw_I (n + 1) S2 h2 → nd_W g mL_law d mc ms K X 2729 (lw_lv i) [] h2 (cs + 2000) (ss + 81000)) : nd_W g mL_law d mc ms K X 1858 (lw_lv i) [] h cs ss := by
  obtain ⟨hS, hI, hl, ⟨ov, hov⟩, A, F, B, hM, hW⟩ := id HI
  obtain ⟨⟨x0, hO⟩, -⟩ : (∃ x, cx_O h (nI (sy_b S).length) (nI (sy_fk S)) (sy_fp S) x) ∧ True := by
    obtain ⟨-, o, nap, ds, gi, dss, hK⟩ := hI
    exact ⟨hK.1, trivial⟩
  unfold cx_O at hO
  have hok : sy_ok (op_simple S).2.2 := by
    unfold op_simple
    repeat' split
    all_goals exact hS
  unfold lw_lv
  refine nd_aload_n hC dL_law_1858 rfl rfl ?_
  have hz : (op_simple S).1 = 0 := by
    unfold op_simple
    repeat' split
    all_goals rfl
  refine nd_callV (mm2 := mX1_simple) (As := []) (mc2 := 1210) (ms2 := 80040) (d2 := d - 1) hC rfl lkL_251 ⟨rfl, lmX1_simple⟩ (hO) rfl (Nat.le_of_ble_eq_true rfl) (by omega) rfl (by exact Nat.le_of_ble_eq_true rfl) (by omega) (by omega) dL_law_1859 rfl ((cp_simple hg (by omega)  S h _ hS hI hl (fun e0 h2 I2 f2 => ?_) (fun e0 => absurd hz e0)))
  have W2 : mo_W h2 A F B h2 := hW.re (fun a z1 z2 => f2.2 a z1 (by omega))
  refine nd_aload_n hC dL_law_1862 rfl rfl ?_
  refine nd_callV (mm2 := mX7_simple) (As := []) (mc2 := 0) (ms2 := 0) (d2 := d - 1) hC rfl lkL_254 ⟨rfl, lmX7_simple⟩ (W2.2.1) rfl (Nat.le_of_ble_eq_true rfl) (by omega) rfl (by exact Nat.le_of_ble_eq_true rfl) (by omega) (by omega) dL_law_1863 rfl ((mp_simple (h0 := h2) hg (by omega)  (4 * n) S A F B h2 _ (by omega) hM hS W2 (fun A2 F2 B2 h3 M3 e4 W3 => ?_)))
  refine nd_icmp_eq hC (tgt := 2729) dL_law_1866 (by decide) (fun _ => ?_) (fun hq => absurd rfl hq)
  refine nd_widen (by omega) (by omega) (k (op_simple S).2.2 h3 ⟨hok, I2.o101 W3.1.1 (fun a z => W3.1.2 a (by omega)), by rw [W3.1.1]; have := f2.1; omega, ⟨ov, (W3.1.2 122 (by omega)).trans ((f2.2 122 (by omega) (by omega)).trans hov)⟩, A2, F2, B2, M3, W3.re (fun _ _ _ => rfl)⟩)
theorem lc_32 (hg : nd_OK g) (hd : 1100 ≤ d) (hC : nd_Cx g mL_law X) (hx : sc_X g L xs) (hi : i + 6 ≤ L) (hL : L ≤ 384) (hn : n ≤ 64) (HI : lw_I n S h) (hcs : cs + 2000 ≤ mc) (hss : ss + 81000 ≤ ms) (k : ∀ S2 h2, lw_I (n + 1) S2 h2 → nd_W g mL_law d mc ms K X 2729 (lw_lv i) [] h2 (cs + 2000) (ss + 81000)) : nd_W g mL_law d mc ms K X 1871 (lw_lv i) [] h cs ss := by
  obtain ⟨hS, hI, hl, ⟨ov, hov⟩, A, F, B, hM, hW⟩ := id HI
  obtain ⟨⟨x0, hO⟩, -⟩ : (∃ x, cx_O h (nI (sy_b S).length) (nI (sy_fk S)) (sy_fp S) x) ∧ True := by
    obtain ⟨-, o, nap, ds, gi, dss, hK⟩ := hI
    exact ⟨hK.1, trivial⟩
  unfold cx_O at hO
  have hok : sy_ok (op_made (xs (i + 1)) S).2.2 := by
    unfold op_made
    repeat' split
    all_goals exact hS
  unfold lw_lv
  refine nd_aload_n hC dL_law_1871 rfl rfl ?_
  refine nd_aload_n hC dL_law_1872 rfl rfl ?_
  refine nd_iload hC dL_law_1873 rfl ?_
  refine nd_iconst hC (v := nI 1) (by rfl) dL_law_1875 ?_
  first | with_reducible refine nd_iaddN hC dL_law_1876 ?_ | refine nd_iadd hC dL_law_1876 ?_
  refine nd_sald (j := i + 1) hC hx (by omega) (by omega) dL_law_1877 ?_
  refine nd_aload_n hC dL_law_1878 rfl rfl ?_
  refine nd_callSX (mm2 := mX0_made) (As := [_, _, _]) (mc2 := 12) (ms2 := 80) (d2 := d - 1) hC rfl lkL_255 lmX0_made (Nat.le_of_ble_eq_true rfl) (by omega) rfl (by exact Nat.le_of_ble_eq_true rfl) (by omega) (by omega) dL_law_1879 rfl ((wx_made hg (by omega) (xs (i + 1)) S h _ ov hS hI hl hov (fun h2 ov2 I2 l2 f2 o2 v2 => ?_)))
  have W2 : mo_W h2 A F B h2 := hW.re f2
  have hbd := wb_made (xs (i + 1)) S
  refine nd_istore hC dL_law_1882 (Nat.le_of_ble_eq_true rfl) ?_
  refine nd_aload_n hC dL_law_1884 rfl rfl ?_
  refine nd_aload_n hC dL_law_1885 rfl rfl ?_
  refine nd_iload hC dL_law_1886 rfl ?_
  refine nd_iconst hC (v := nI 1) (by rfl) dL_law_1888 ?_
  first | with_reducible refine nd_iaddN hC dL_law_1889 ?_ | refine nd_iadd hC dL_law_1889 ?_
  refine nd_sald (j := i + 1) hC hx (by omega) (by omega) dL_law_1890 ?_
  refine nd_callV (mm2 := mX7_made) (As := [_]) (mc2 := 0) (ms2 := 0) (d2 := d - 1) hC rfl lkL_257 ⟨rfl, lmX7_made⟩ (W2.2.1) rfl (Nat.le_of_ble_eq_true rfl) (by omega) rfl (by exact Nat.le_of_ble_eq_true rfl) (by omega) (by omega) dL_law_1891 rfl ((mp_made (h0 := h2) hg (by omega) (xs (i + 1)) (4 * n) S A F B h2 _ (by omega) hM hS W2 (fun A2 F2 B2 h3 M3 e4 W3 => ?_)))
  refine nd_istore hC dL_law_1894 (Nat.le_of_ble_eq_true rfl) ?_
  refine nd_aload_n hC dL_law_1896 rfl rfl ?_
  refine nd_callV (mm2 := mX7_thrown) (As := []) (mc2 := 0) (ms2 := 0) (d2 := d - 1) hC rfl lkL_151 ⟨rfl, lmX7_thrown⟩ (W3.2.1) rfl (Nat.le_of_ble_eq_true rfl) (by omega) rfl (by exact Nat.le_of_ble_eq_true rfl) (by omega) (by omega) dL_law_1897 rfl ((sp_thrown hg W3 ?_))
  rw [e4]
  refine nd_iload hC dL_law_1900 rfl ?_
  refine nd_icmp_eq hC (tgt := 1907) dL_law_1902 (by decide) (fun _ => ?_) (fun hq => absurd rfl hq)
  have FIN : nd_W g mL_law d mc ms K X 2729 (lw_lv i) [] h3 (cs + 2000) (ss + 81000) := k (op_made (xs (i + 1)) S).2.2 h3 ⟨hok, I2.o101 W3.1.1 (fun a z => W3.1.2 a (by omega)), by rw [W3.1.1]; omega, ⟨ov2, (W3.1.2 122 (by omega)).trans o2⟩, A2, F2, B2, M3, W3.re (fun _ _ _ => rfl)⟩
  have h3o := (W3.1.2 122 (by omega)).trans o2
  refine nd_iload hC dL_law_1907 rfl ?_
  by_cases hz : (op_made (xs (i + 1)) S).1 = 0
  · have v3 : ov2 0 = (op_made (xs (i + 1)) S).2.1.toInt64 := v2 hz
    rw [show ((mp_i (op_made (xs (i + 1)))) S).1 = 0 from hz]
    refine nd_if_ne hC (tgt := 1924) dL_law_1909 (by decide) (fun hq => absurd rfl hq) (fun _ => ?_)
    refine nd_aload_n hC dL_law_1912 rfl rfl ?_
    refine nd_iconst hC (v := nI 0) (by rfl) dL_law_1913 ?_
    refine nd_laloadN hC h3o (by omega) (by omega) dL_law_1914 ?_
    refine nd_iload hC dL_law_1915 rfl ?_
    first | with_reducible refine nd_i2lN hC (by omega) dL_law_1917 ?_ | refine nd_i2l hC dL_law_1917 ?_
    refine nd_lcmp_eq hC (tgt := 1924) dL_law_1918 dL_law_1919 (by decide) (fun _ => ?_) (fun hq => absurd v3 hq)
    refine nd_goto hC (tgt := 2729) dL_law_1924 (by decide) ?_
    refine nd_drop 5 (nd_drop 6 ?_)
    exact nd_widen (by omega) (by omega) FIN
  · refine nd_if_ne hC (tgt := 1924) dL_law_1909 (by decide) (fun _ => ?_) (fun hq => absurd (lw_nz hbd (by omega) hz hq) id)
    refine nd_goto hC (tgt := 2729) dL_law_1924 (by decide) ?_
    refine nd_drop 5 (nd_drop 6 ?_)
    exact nd_widen (by omega) (by omega) FIN
theorem lc_33 (hg : nd_OK g) (hd : 1100 ≤ d) (hC : nd_Cx g mL_law X) (hx : sc_X g L xs) (hi : i + 6 ≤ L) (hL : L ≤ 384) (hn : n ≤ 64) (HI : lw_I n S h) (hcs : cs + 2000 ≤ mc) (hss : ss + 81000 ≤ ms) (k : ∀ S2 h2, lw_I (n + 1) S2 h2 → nd_W g mL_law d mc ms K X 2729 (lw_lv i) [] h2 (cs + 2000) (ss + 81000)) : nd_W g mL_law d mc ms K X 1927 (lw_lv i) [] h cs ss := by
  obtain ⟨hS, hI, hl, ⟨ov, hov⟩, A, F, B, hM, hW⟩ := id HI
  obtain ⟨⟨x0, hO⟩, -⟩ : (∃ x, cx_O h (nI (sy_b S).length) (nI (sy_fk S)) (sy_fp S) x) ∧ True := by
    obtain ⟨-, o, nap, ds, gi, dss, hK⟩ := hI
    exact ⟨hK.1, trivial⟩
  unfold cx_O at hO
  have hok : sy_ok (op_madeBy (xs (i + 1)) (xs (i + 2)) S).2.2 := by
    unfold op_madeBy
    repeat' split
    all_goals exact hS
  unfold lw_lv
  refine nd_aload_n hC dL_law_1927 rfl rfl ?_
  refine nd_aload_n hC dL_law_1928 rfl rfl ?_
  refine nd_iload hC dL_law_1929 rfl ?_
  refine nd_iconst hC (v := nI 1) (by rfl) dL_law_1931 ?_
  first | with_reducible refine nd_iaddN hC dL_law_1932 ?_ | refine nd_iadd hC dL_law_1932 ?_
  refine nd_sald (j := i + 1) hC hx (by omega) (by omega) dL_law_1933 ?_
  refine nd_aload_n hC dL_law_1934 rfl rfl ?_
  refine nd_iload hC dL_law_1935 rfl ?_
  refine nd_iconst hC (v := nI 2) (by rfl) dL_law_1937 ?_
  first | with_reducible refine nd_iaddN hC dL_law_1938 ?_ | refine nd_iadd hC dL_law_1938 ?_
  refine nd_sald (j := i + 2) hC hx (by omega) (by omega) dL_law_1939 ?_
  refine nd_aload_n hC dL_law_1940 rfl rfl ?_
  refine nd_callSX (mm2 := mX0_madeBy) (As := [_, _, _, _]) (mc2 := 12) (ms2 := 80) (d2 := d - 1) hC rfl lkL_258 lmX0_madeBy (Nat.le_of_ble_eq_true rfl) (by omega) rfl (by exact Nat.le_of_ble_eq_true rfl) (by omega) (by omega) dL_law_1941 rfl ((wx_madeBy hg (by omega) (xs (i + 1)) (xs (i + 2)) S h _ ov hS hI hl hov (fun h2 ov2 I2 l2 f2 o2 v2 => ?_)))
  have W2 : mo_W h2 A F B h2 := hW.re f2
  have hbd := wb_madeBy (xs (i + 1)) (xs (i + 2)) S
  refine nd_istore hC dL_law_1944 (Nat.le_of_ble_eq_true rfl) ?_
  refine nd_aload_n hC dL_law_1946 rfl rfl ?_
  refine nd_aload_n hC dL_law_1947 rfl rfl ?_
  refine nd_iload hC dL_law_1948 rfl ?_
  refine nd_iconst hC (v := nI 1) (by rfl) dL_law_1950 ?_
  first | with_reducible refine nd_iaddN hC dL_law_1951 ?_ | refine nd_iadd hC dL_law_1951 ?_
  refine nd_sald (j := i + 1) hC hx (by omega) (by omega) dL_law_1952 ?_
  refine nd_aload_n hC dL_law_1953 rfl rfl ?_
  refine nd_iload hC dL_law_1954 rfl ?_
  refine nd_iconst hC (v := nI 2) (by rfl) dL_law_1956 ?_
  first | with_reducible refine nd_iaddN hC dL_law_1957 ?_ | refine nd_iadd hC dL_law_1957 ?_
  refine nd_sald (j := i + 2) hC hx (by omega) (by omega) dL_law_1958 ?_
  refine nd_callV (mm2 := mX7_madeBy) (As := [_, _]) (mc2 := 0) (ms2 := 0) (d2 := d - 1) hC rfl lkL_260 ⟨rfl, lmX7_madeBy⟩ (W2.2.1) rfl (Nat.le_of_ble_eq_true rfl) (by omega) rfl (by exact Nat.le_of_ble_eq_true rfl) (by omega) (by omega) dL_law_1959 rfl ((mp_madeBy (h0 := h2) hg (by omega) (xs (i + 1)) (xs (i + 2)) (4 * n) S A F B h2 _ (by omega) hM hS W2 (fun A2 F2 B2 h3 M3 e4 W3 => ?_)))
  refine nd_istore hC dL_law_1962 (Nat.le_of_ble_eq_true rfl) ?_
  refine nd_aload_n hC dL_law_1964 rfl rfl ?_
  refine nd_callV (mm2 := mX7_thrown) (As := []) (mc2 := 0) (ms2 := 0) (d2 := d - 1) hC rfl lkL_151 ⟨rfl, lmX7_thrown⟩ (W3.2.1) rfl (Nat.le_of_ble_eq_true rfl) (by omega) rfl (by exact Nat.le_of_ble_eq_true rfl) (by omega) (by omega) dL_law_1965 rfl ((sp_thrown hg W3 ?_))
  rw [e4]
  refine nd_iload hC dL_law_1968 rfl ?_
  refine nd_icmp_eq hC (tgt := 1975) dL_law_1970 (by decide) (fun _ => ?_) (fun hq => absurd rfl hq)
  have FIN : nd_W g mL_law d mc ms K X 2729 (lw_lv i) [] h3 (cs + 2000) (ss + 81000) := k (op_madeBy (xs (i + 1)) (xs (i + 2)) S).2.2 h3 ⟨hok, I2.o101 W3.1.1 (fun a z => W3.1.2 a (by omega)), by rw [W3.1.1]; omega, ⟨ov2, (W3.1.2 122 (by omega)).trans o2⟩, A2, F2, B2, M3, W3.re (fun _ _ _ => rfl)⟩
  have h3o := (W3.1.2 122 (by omega)).trans o2
  refine nd_iload hC dL_law_1975 rfl ?_
  by_cases hz : (op_madeBy (xs (i + 1)) (xs (i + 2)) S).1 = 0
  · have v3 : ov2 0 = (op_madeBy (xs (i + 1)) (xs (i + 2)) S).2.1.toInt64 := v2 hz
    rw [show ((mp_i (op_madeBy (xs (i + 1)) (xs (i + 2)))) S).1 = 0 from hz]
    refine nd_if_ne hC (tgt := 1992) dL_law_1977 (by decide) (fun hq => absurd rfl hq) (fun _ => ?_)
    refine nd_aload_n hC dL_law_1980 rfl rfl ?_
    refine nd_iconst hC (v := nI 0) (by rfl) dL_law_1981 ?_
    refine nd_laloadN hC h3o (by omega) (by omega) dL_law_1982 ?_
    refine nd_iload hC dL_law_1983 rfl ?_
    first | with_reducible refine nd_i2lN hC (by omega) dL_law_1985 ?_ | refine nd_i2l hC dL_law_1985 ?_
    refine nd_lcmp_eq hC (tgt := 1992) dL_law_1986 dL_law_1987 (by decide) (fun _ => ?_) (fun hq => absurd v3 hq)
    refine nd_goto hC (tgt := 2729) dL_law_1992 (by decide) ?_
    refine nd_drop 5 (nd_drop 6 ?_)
    exact nd_widen (by omega) (by omega) FIN
  · refine nd_if_ne hC (tgt := 1992) dL_law_1977 (by decide) (fun _ => ?_) (fun hq => absurd (lw_nz hbd (by omega) hz hq) id)
    refine nd_goto hC (tgt := 2729) dL_law_1992 (by decide) ?_
    refine nd_drop 5 (nd_drop 6 ?_)
    exact nd_widen (by omega) (by omega) FIN
theorem lc_34 (hg : nd_OK g) (hd : 1100 ≤ d) (hC : nd_Cx g mL_law X) (hx : sc_X g L xs) (hi : i + 6 ≤ L) (hL : L ≤ 384) (hn : n ≤ 64) (HI : lw_I n S h) (hcs : cs + 2000 ≤ mc) (hss : ss + 81000 ≤ ms) (k : ∀ S2 h2, lw_I (n + 1) S2 h2 → nd_W g mL_law d mc ms K X 2729 (lw_lv i) [] h2 (cs + 2000) (ss + 81000)) : nd_W g mL_law d mc ms K X 1995 (lw_lv i) [] h cs ss := by
  obtain ⟨hS, hI, hl, ⟨ov, hov⟩, A, F, B, hM, hW⟩ := id HI
  obtain ⟨⟨x0, hO⟩, -⟩ : (∃ x, cx_O h (nI (sy_b S).length) (nI (sy_fk S)) (sy_fp S) x) ∧ True := by
    obtain ⟨-, o, nap, ds, gi, dss, hK⟩ := hI
    exact ⟨hK.1, trivial⟩
  unfold cx_O at hO
  have hok : sy_ok (op_patterns S).2.2 := by
    unfold op_patterns
    repeat' split
    all_goals exact hS
  unfold lw_lv
  refine nd_aload_n hC dL_law_1995 rfl rfl ?_
  have hz : (op_patterns S).1 = 0 := by
    unfold op_patterns
    repeat' split
    all_goals rfl
  refine nd_callV (mm2 := mX1_patterns) (As := []) (mc2 := 1210) (ms2 := 80040) (d2 := d - 1) hC rfl lkL_261 ⟨rfl, lmX1_patterns⟩ (hO) rfl (Nat.le_of_ble_eq_true rfl) (by omega) rfl (by exact Nat.le_of_ble_eq_true rfl) (by omega) (by omega) dL_law_1996 rfl ((cp_patterns hg (by omega)  S h _ hS hI hl (fun e0 h2 I2 f2 => ?_) (fun e0 => absurd hz e0)))
  have W2 : mo_W h2 A F B h2 := hW.re (fun a z1 z2 => f2.2 a z1 (by omega))
  refine nd_aload_n hC dL_law_1999 rfl rfl ?_
  refine nd_callV (mm2 := mX7_patterns) (As := []) (mc2 := 0) (ms2 := 0) (d2 := d - 1) hC rfl lkL_264 ⟨rfl, lmX7_patterns⟩ (W2.2.1) rfl (Nat.le_of_ble_eq_true rfl) (by omega) rfl (by exact Nat.le_of_ble_eq_true rfl) (by omega) (by omega) dL_law_2000 rfl ((mp_patterns (h0 := h2) hg (by omega)  (4 * n) S A F B h2 _ (by omega) hM hS W2 (fun A2 F2 B2 h3 M3 e4 W3 => ?_)))
  refine nd_icmp_eq hC (tgt := 2729) dL_law_2003 (by decide) (fun _ => ?_) (fun hq => absurd rfl hq)
  refine nd_widen (by omega) (by omega) (k (op_patterns S).2.2 h3 ⟨hok, I2.o101 W3.1.1 (fun a z => W3.1.2 a (by omega)), by rw [W3.1.1]; have := f2.1; omega, ⟨ov, (W3.1.2 122 (by omega)).trans ((f2.2 122 (by omega) (by omega)).trans hov)⟩, A2, F2, B2, M3, W3.re (fun _ _ _ => rfl)⟩)
theorem lc_35 (hg : nd_OK g) (hd : 1100 ≤ d) (hC : nd_Cx g mL_law X) (hx : sc_X g L xs) (hi : i + 6 ≤ L) (hL : L ≤ 384) (hn : n ≤ 64) (HI : lw_I n S h) (hcs : cs + 2000 ≤ mc) (hss : ss + 81000 ≤ ms) (k : ∀ S2 h2, lw_I (n + 1) S2 h2 → nd_W g mL_law d mc ms K X 2729 (lw_lv i) [] h2 (cs + 2000) (ss + 81000)) : nd_W g mL_law d mc ms K X 2008 (lw_lv i) [] h cs ss := by
  obtain ⟨hS, hI, hl, ⟨ov, hov⟩, A, F, B, hM, hW⟩ := id HI
  obtain ⟨⟨x0, hO⟩, -⟩ : (∃ x, cx_O h (nI (sy_b S).length) (nI (sy_fk S)) (sy_fp S) x) ∧ True := by
    obtain ⟨-, o, nap, ds, gi, dss, hK⟩ := hI
    exact ⟨hK.1, trivial⟩
  unfold cx_O at hO
  have hok : sy_ok (op_refuse S).2.2 := by
    unfold op_refuse
    repeat' split
    all_goals exact hS
  unfold lw_lv
  refine nd_aload_n hC dL_law_2008 rfl rfl ?_
  have hz : (op_refuse S).1 = 0 := by
    unfold op_refuse
    repeat' split
    all_goals rfl
  refine nd_callV (mm2 := mX1_refuse) (As := []) (mc2 := 2) (ms2 := 12) (d2 := d - 1) hC rfl lkL_265 ⟨rfl, lmX1_refuse⟩ (hO) rfl (Nat.le_of_ble_eq_true rfl) (by omega) rfl (by exact Nat.le_of_ble_eq_true rfl) (by omega) (by omega) dL_law_2009 rfl ((cp_refuse hg (by omega)  S h _ hS hI hl (fun e0 h2 I2 f2 => ?_) (fun e0 => absurd hz e0)))
  have W2 : mo_W h2 A F B h2 := hW.re (fun a z1 z2 => f2.2 a z1 (by omega))
  refine nd_aload_n hC dL_law_2012 rfl rfl ?_
  refine nd_callV (mm2 := mX7_refuse) (As := []) (mc2 := 0) (ms2 := 0) (d2 := d - 1) hC rfl lkL_268 ⟨rfl, lmX7_refuse⟩ (W2.2.1) rfl (Nat.le_of_ble_eq_true rfl) (by omega) rfl (by exact Nat.le_of_ble_eq_true rfl) (by omega) (by omega) dL_law_2013 rfl ((mp_refuse (h0 := h2) hg (by omega)  (4 * n) S A F B h2 _ (by omega) hM hS W2 (fun A2 F2 B2 h3 M3 e4 W3 => ?_)))
  refine nd_icmp_eq hC (tgt := 2729) dL_law_2016 (by decide) (fun _ => ?_) (fun hq => absurd rfl hq)
  refine nd_widen (by omega) (by omega) (k (op_refuse S).2.2 h3 ⟨hok, I2.o101 W3.1.1 (fun a z => W3.1.2 a (by omega)), by rw [W3.1.1]; have := f2.1; omega, ⟨ov, (W3.1.2 122 (by omega)).trans ((f2.2 122 (by omega) (by omega)).trans hov)⟩, A2, F2, B2, M3, W3.re (fun _ _ _ => rfl)⟩)
theorem lc_36 (hg : nd_OK g) (hd : 1100 ≤ d) (hC : nd_Cx g mL_law X) (hx : sc_X g L xs) (hi : i + 6 ≤ L) (hL : L ≤ 384) (hn : n ≤ 64) (HI : lw_I n S h) (hcs : cs + 2000 ≤ mc) (hss : ss + 81000 ≤ ms) (k : ∀ S2 h2, lw_I (n + 1) S2 h2 → nd_W g mL_law d mc ms K X 2729 (lw_lv i) [] h2 (cs + 2000) (ss + 81000)) : nd_W g mL_law d mc ms K X 2021 (lw_lv i) [] h cs ss := by
  obtain ⟨hS, hI, hl, ⟨ov, hov⟩, A, F, B, hM, hW⟩ := id HI
  obtain ⟨⟨x0, hO⟩, -⟩ : (∃ x, cx_O h (nI (sy_b S).length) (nI (sy_fk S)) (sy_fp S) x) ∧ True := by
    obtain ⟨-, o, nap, ds, gi, dss, hK⟩ := hI
    exact ⟨hK.1, trivial⟩
  unfold cx_O at hO
  have hok : sy_ok (op_fairest (xs (i + 1)) (xs (i + 2)) S).2.2 := by
    unfold op_fairest op_bestBy
    repeat' split
    all_goals exact hS
  unfold lw_lv
  refine nd_aload_n hC dL_law_2021 rfl rfl ?_
  refine nd_aload_n hC dL_law_2022 rfl rfl ?_
  refine nd_iload hC dL_law_2023 rfl ?_
  refine nd_iconst hC (v := nI 1) (by rfl) dL_law_2025 ?_
  first | with_reducible refine nd_iaddN hC dL_law_2026 ?_ | refine nd_iadd hC dL_law_2026 ?_
  refine nd_sald (j := i + 1) hC hx (by omega) (by omega) dL_law_2027 ?_
  refine nd_aload_n hC dL_law_2028 rfl rfl ?_
  refine nd_iload hC dL_law_2029 rfl ?_
  refine nd_iconst hC (v := nI 2) (by rfl) dL_law_2031 ?_
  first | with_reducible refine nd_iaddN hC dL_law_2032 ?_ | refine nd_iadd hC dL_law_2032 ?_
  refine nd_sald (j := i + 2) hC hx (by omega) (by omega) dL_law_2033 ?_
  refine nd_aload_n hC dL_law_2034 rfl rfl ?_
  refine nd_callSX (mm2 := mX0_fairest) (As := [_, _, _, _]) (mc2 := 10) (ms2 := 60) (d2 := d - 1) hC rfl lkL_269 lmX0_fairest (Nat.le_of_ble_eq_true rfl) (by omega) rfl (by exact Nat.le_of_ble_eq_true rfl) (by omega) (by omega) dL_law_2035 rfl ((wx_fairest hg (by omega) (xs (i + 1)) (xs (i + 2)) S h _ ov hS hI hl hov (fun h2 ov2 I2 l2 f2 o2 v2 => ?_)))
  have W2 : mo_W h2 A F B h2 := hW.re f2
  have hbd := wb_fairest (xs (i + 1)) (xs (i + 2)) S
  refine nd_istore hC dL_law_2038 (Nat.le_of_ble_eq_true rfl) ?_
  refine nd_aload_n hC dL_law_2040 rfl rfl ?_
  refine nd_aload_n hC dL_law_2041 rfl rfl ?_
  refine nd_iload hC dL_law_2042 rfl ?_
  refine nd_iconst hC (v := nI 1) (by rfl) dL_law_2044 ?_
  first | with_reducible refine nd_iaddN hC dL_law_2045 ?_ | refine nd_iadd hC dL_law_2045 ?_
  refine nd_sald (j := i + 1) hC hx (by omega) (by omega) dL_law_2046 ?_
  refine nd_aload_n hC dL_law_2047 rfl rfl ?_
  refine nd_iload hC dL_law_2048 rfl ?_
  refine nd_iconst hC (v := nI 2) (by rfl) dL_law_2050 ?_
  first | with_reducible refine nd_iaddN hC dL_law_2051 ?_ | refine nd_iadd hC dL_law_2051 ?_
  refine nd_sald (j := i + 2) hC hx (by omega) (by omega) dL_law_2052 ?_
  refine nd_callV (mm2 := mX7_fairest) (As := [_, _]) (mc2 := 0) (ms2 := 0) (d2 := d - 1) hC rfl lkL_271 ⟨rfl, lmX7_fairest⟩ (W2.2.1) rfl (Nat.le_of_ble_eq_true rfl) (by omega) rfl (by exact Nat.le_of_ble_eq_true rfl) (by omega) (by omega) dL_law_2053 rfl ((mp_fairest (h0 := h2) hg (by omega) (xs (i + 1)) (xs (i + 2)) (4 * n) S A F B h2 _ (by omega) hM hS W2 (fun A2 F2 B2 h3 M3 e4 W3 => ?_)))
  refine nd_istore hC dL_law_2056 (Nat.le_of_ble_eq_true rfl) ?_
  refine nd_aload_n hC dL_law_2058 rfl rfl ?_
  refine nd_callV (mm2 := mX7_thrown) (As := []) (mc2 := 0) (ms2 := 0) (d2 := d - 1) hC rfl lkL_151 ⟨rfl, lmX7_thrown⟩ (W3.2.1) rfl (Nat.le_of_ble_eq_true rfl) (by omega) rfl (by exact Nat.le_of_ble_eq_true rfl) (by omega) (by omega) dL_law_2059 rfl ((sp_thrown hg W3 ?_))
  rw [e4]
  refine nd_iload hC dL_law_2062 rfl ?_
  refine nd_icmp_eq hC (tgt := 2069) dL_law_2064 (by decide) (fun _ => ?_) (fun hq => absurd rfl hq)
  have FIN : nd_W g mL_law d mc ms K X 2729 (lw_lv i) [] h3 (cs + 2000) (ss + 81000) := k (op_fairest (xs (i + 1)) (xs (i + 2)) S).2.2 h3 ⟨hok, I2.o101 W3.1.1 (fun a z => W3.1.2 a (by omega)), by rw [W3.1.1]; omega, ⟨ov2, (W3.1.2 122 (by omega)).trans o2⟩, A2, F2, B2, M3, W3.re (fun _ _ _ => rfl)⟩
  have h3o := (W3.1.2 122 (by omega)).trans o2
  refine nd_iload hC dL_law_2069 rfl ?_
  by_cases hz : (op_fairest (xs (i + 1)) (xs (i + 2)) S).1 = 0
  · have v3 : ov2 0 = (op_fairest (xs (i + 1)) (xs (i + 2)) S).2.1.toInt64 := v2 hz
    rw [show ((mp_i (op_fairest (xs (i + 1)) (xs (i + 2)))) S).1 = 0 from hz]
    refine nd_if_ne hC (tgt := 2086) dL_law_2071 (by decide) (fun hq => absurd rfl hq) (fun _ => ?_)
    refine nd_aload_n hC dL_law_2074 rfl rfl ?_
    refine nd_iconst hC (v := nI 0) (by rfl) dL_law_2075 ?_
    refine nd_laloadN hC h3o (by omega) (by omega) dL_law_2076 ?_
    refine nd_iload hC dL_law_2077 rfl ?_
    first | with_reducible refine nd_i2lN hC (by omega) dL_law_2079 ?_ | refine nd_i2l hC dL_law_2079 ?_
    refine nd_lcmp_eq hC (tgt := 2086) dL_law_2080 dL_law_2081 (by decide) (fun _ => ?_) (fun hq => absurd v3 hq)
    refine nd_goto hC (tgt := 2729) dL_law_2086 (by decide) ?_
    refine nd_drop 5 (nd_drop 6 ?_)
    exact nd_widen (by omega) (by omega) FIN
  · refine nd_if_ne hC (tgt := 2086) dL_law_2071 (by decide) (fun _ => ?_) (fun hq => absurd (lw_nz hbd (by omega) hz hq) id)
    refine nd_goto hC (tgt := 2729) dL_law_2086 (by decide) ?_
    refine nd_drop 5 (nd_drop 6 ?_)
    exact nd_widen (by omega) (by omega) FIN
theorem lc_37 (hg : nd_OK g) (hd : 1100 ≤ d) (hC : nd_Cx g mL_law X) (hx : sc_X g L xs) (hi : i + 6 ≤ L) (hL : L ≤ 384) (hn : n ≤ 64) (HI : lw_I n S h) (hcs : cs + 2000 ≤ mc) (hss : ss + 81000 ≤ ms) (k : ∀ S2 h2, lw_I (n + 1) S2 h2 → nd_W g mL_law d mc ms K X 2729 (lw_lv i) [] h2 (cs + 2000) (ss + 81000)) : nd_W g mL_law d mc ms K X 2089 (lw_lv i) [] h cs ss := by
  obtain ⟨hS, hI, hl, ⟨ov, hov⟩, A, F, B, hM, hW⟩ := id HI
  obtain ⟨⟨x0, hO⟩, -⟩ : (∃ x, cx_O h (nI (sy_b S).length) (nI (sy_fk S)) (sy_fp S) x) ∧ True := by
    obtain ⟨-, o, nap, ds, gi, dss, hK⟩ := hI
    exact ⟨hK.1, trivial⟩
  unfold cx_O at hO
  have hok : sy_ok (op_better (xs (i + 1)) S).2.2 := by
    unfold op_better op_many
    repeat' split
    all_goals exact hS
  unfold lw_lv
  refine nd_aload_n hC dL_law_2089 rfl rfl ?_
  refine nd_aload_n hC dL_law_2090 rfl rfl ?_
  refine nd_iload hC dL_law_2091 rfl ?_
  refine nd_iconst hC (v := nI 1) (by rfl) dL_law_2093 ?_
  first | with_reducible refine nd_iaddN hC dL_law_2094 ?_ | refine nd_iadd hC dL_law_2094 ?_
  refine nd_sald (j := i + 1) hC hx (by omega) (by omega) dL_law_2095 ?_
  refine nd_aload_n hC dL_law_2096 rfl rfl ?_
  refine nd_callSX (mm2 := mX0_better) (As := [_, _, _]) (mc2 := 1220) (ms2 := 80060) (d2 := d - 1) hC rfl lkL_272 lmX0_better (Nat.le_of_ble_eq_true rfl) (by omega) rfl (by exact Nat.le_of_ble_eq_true rfl) (by omega) (by omega) dL_law_2097 rfl ((wx_better hg (by omega) (xs (i + 1)) S h _ ov hS hI hl hov (fun h2 ov2 I2 l2 f2 o2 v2 => ?_)))
  have W2 : mo_W h2 A F B h2 := hW.re f2
  have hbd := wb_better (xs (i + 1)) S
  refine nd_istore hC dL_law_2100 (Nat.le_of_ble_eq_true rfl) ?_
  refine nd_aload_n hC dL_law_2102 rfl rfl ?_
  refine nd_aload_n hC dL_law_2103 rfl rfl ?_
  refine nd_iload hC dL_law_2104 rfl ?_
  refine nd_iconst hC (v := nI 1) (by rfl) dL_law_2106 ?_
  first | with_reducible refine nd_iaddN hC dL_law_2107 ?_ | refine nd_iadd hC dL_law_2107 ?_
  refine nd_sald (j := i + 1) hC hx (by omega) (by omega) dL_law_2108 ?_
  refine nd_callV (mm2 := mX7_better) (As := [_]) (mc2 := 0) (ms2 := 0) (d2 := d - 1) hC rfl lkL_274 ⟨rfl, lmX7_better⟩ (W2.2.1) rfl (Nat.le_of_ble_eq_true rfl) (by omega) rfl (by exact Nat.le_of_ble_eq_true rfl) (by omega) (by omega) dL_law_2109 rfl ((mp_better (h0 := h2) hg (by omega) (xs (i + 1)) (4 * n) S A F B h2 _ (by omega) hM hS W2 (fun A2 F2 B2 h3 M3 e4 W3 => ?_)))
  refine nd_istore hC dL_law_2112 (Nat.le_of_ble_eq_true rfl) ?_
  refine nd_aload_n hC dL_law_2114 rfl rfl ?_
  refine nd_callV (mm2 := mX7_thrown) (As := []) (mc2 := 0) (ms2 := 0) (d2 := d - 1) hC rfl lkL_151 ⟨rfl, lmX7_thrown⟩ (W3.2.1) rfl (Nat.le_of_ble_eq_true rfl) (by omega) rfl (by exact Nat.le_of_ble_eq_true rfl) (by omega) (by omega) dL_law_2115 rfl ((sp_thrown hg W3 ?_))
  rw [e4]
  refine nd_iload hC dL_law_2118 rfl ?_
  refine nd_icmp_eq hC (tgt := 2125) dL_law_2120 (by decide) (fun _ => ?_) (fun hq => absurd rfl hq)
  have FIN : nd_W g mL_law d mc ms K X 2729 (lw_lv i) [] h3 (cs + 2000) (ss + 81000) := k (op_better (xs (i + 1)) S).2.2 h3 ⟨hok, I2.o101 W3.1.1 (fun a z => W3.1.2 a (by omega)), by rw [W3.1.1]; omega, ⟨ov2, (W3.1.2 122 (by omega)).trans o2⟩, A2, F2, B2, M3, W3.re (fun _ _ _ => rfl)⟩
  have h3o := (W3.1.2 122 (by omega)).trans o2
  refine nd_iload hC dL_law_2125 rfl ?_
  by_cases hz : (op_better (xs (i + 1)) S).1 = 0
  · have v3 : ov2 0 = (op_better (xs (i + 1)) S).2.1.toInt64 := v2 hz
    rw [show ((mp_i (op_better (xs (i + 1)))) S).1 = 0 from hz]
    refine nd_if_ne hC (tgt := 2142) dL_law_2127 (by decide) (fun hq => absurd rfl hq) (fun _ => ?_)
    refine nd_aload_n hC dL_law_2130 rfl rfl ?_
    refine nd_iconst hC (v := nI 0) (by rfl) dL_law_2131 ?_
    refine nd_laloadN hC h3o (by omega) (by omega) dL_law_2132 ?_
    refine nd_iload hC dL_law_2133 rfl ?_
    first | with_reducible refine nd_i2lN hC (by omega) dL_law_2135 ?_ | refine nd_i2l hC dL_law_2135 ?_
    refine nd_lcmp_eq hC (tgt := 2142) dL_law_2136 dL_law_2137 (by decide) (fun _ => ?_) (fun hq => absurd v3 hq)
    refine nd_goto hC (tgt := 2729) dL_law_2142 (by decide) ?_
    refine nd_drop 5 (nd_drop 6 ?_)
    exact nd_widen (by omega) (by omega) FIN
  · refine nd_if_ne hC (tgt := 2142) dL_law_2127 (by decide) (fun _ => ?_) (fun hq => absurd (lw_nz hbd (by omega) hz hq) id)
    refine nd_goto hC (tgt := 2729) dL_law_2142 (by decide) ?_
    refine nd_drop 5 (nd_drop 6 ?_)
    exact nd_widen (by omega) (by omega) FIN
theorem lc_38 (hg : nd_OK g) (hd : 1100 ≤ d) (hC : nd_Cx g mL_law X) (hx : sc_X g L xs) (hi : i + 6 ≤ L) (hL : L ≤ 384) (hn : n ≤ 64) (HI : lw_I n S h) (hcs : cs + 2000 ≤ mc) (hss : ss + 81000 ≤ ms) (k : ∀ S2 h2, lw_I (n + 1) S2 h2 → nd_W g mL_law d mc ms K X 2729 (lw_lv i) [] h2 (cs + 2000) (ss + 81000)) : nd_W g mL_law d mc ms K X 2145 (lw_lv i) [] h cs ss := by
  obtain ⟨hS, hI, hl, ⟨ov, hov⟩, A, F, B, hM, hW⟩ := id HI
  obtain ⟨⟨x0, hO⟩, -⟩ : (∃ x, cx_O h (nI (sy_b S).length) (nI (sy_fk S)) (sy_fp S) x) ∧ True := by
    obtain ⟨-, o, nap, ds, gi, dss, hK⟩ := hI
    exact ⟨hK.1, trivial⟩
  unfold cx_O at hO
  have hok : sy_ok (op_keenest (xs (i + 1)) S).2.2 := by
    unfold op_keenest
    repeat' split
    all_goals exact hS
  unfold lw_lv
  refine nd_aload_n hC dL_law_2145 rfl rfl ?_
  refine nd_aload_n hC dL_law_2146 rfl rfl ?_
  refine nd_iload hC dL_law_2147 rfl ?_
  refine nd_iconst hC (v := nI 1) (by rfl) dL_law_2149 ?_
  first | with_reducible refine nd_iaddN hC dL_law_2150 ?_ | refine nd_iadd hC dL_law_2150 ?_
  refine nd_sald (j := i + 1) hC hx (by omega) (by omega) dL_law_2151 ?_
  refine nd_aload_n hC dL_law_2152 rfl rfl ?_
  refine nd_callSX (mm2 := mX0_keenest) (As := [_, _, _]) (mc2 := 40) (ms2 := 120) (d2 := d - 1) hC rfl lkL_275 lmX0_keenest (Nat.le_of_ble_eq_true rfl) (by omega) rfl (by exact Nat.le_of_ble_eq_true rfl) (by omega) (by omega) dL_law_2153 rfl ((wx_keenest hg (by omega) (xs (i + 1)) S h _ ov hS hI hl hov (fun h2 ov2 I2 l2 f2 o2 v2 => ?_)))
  have W2 : mo_W h2 A F B h2 := hW.re f2
  have hbd := wb_keenest (xs (i + 1)) S
  refine nd_istore hC dL_law_2156 (Nat.le_of_ble_eq_true rfl) ?_
  refine nd_aload_n hC dL_law_2158 rfl rfl ?_
  refine nd_aload_n hC dL_law_2159 rfl rfl ?_
  refine nd_iload hC dL_law_2160 rfl ?_
  refine nd_iconst hC (v := nI 1) (by rfl) dL_law_2162 ?_
  first | with_reducible refine nd_iaddN hC dL_law_2163 ?_ | refine nd_iadd hC dL_law_2163 ?_
  refine nd_sald (j := i + 1) hC hx (by omega) (by omega) dL_law_2164 ?_
  refine nd_callV (mm2 := mX7_keenest) (As := [_]) (mc2 := 0) (ms2 := 0) (d2 := d - 1) hC rfl lkL_277 ⟨rfl, lmX7_keenest⟩ (W2.2.1) rfl (Nat.le_of_ble_eq_true rfl) (by omega) rfl (by exact Nat.le_of_ble_eq_true rfl) (by omega) (by omega) dL_law_2165 rfl ((mp_keenest (h0 := h2) hg (by omega) (xs (i + 1)) (4 * n) S A F B h2 _ (by omega) hM hS W2 (fun A2 F2 B2 h3 M3 e4 W3 => ?_)))
  refine nd_istore hC dL_law_2168 (Nat.le_of_ble_eq_true rfl) ?_
  refine nd_aload_n hC dL_law_2170 rfl rfl ?_
  refine nd_callV (mm2 := mX7_thrown) (As := []) (mc2 := 0) (ms2 := 0) (d2 := d - 1) hC rfl lkL_151 ⟨rfl, lmX7_thrown⟩ (W3.2.1) rfl (Nat.le_of_ble_eq_true rfl) (by omega) rfl (by exact Nat.le_of_ble_eq_true rfl) (by omega) (by omega) dL_law_2171 rfl ((sp_thrown hg W3 ?_))
  rw [e4]
  refine nd_iload hC dL_law_2174 rfl ?_
  refine nd_icmp_eq hC (tgt := 2181) dL_law_2176 (by decide) (fun _ => ?_) (fun hq => absurd rfl hq)
  have FIN : nd_W g mL_law d mc ms K X 2729 (lw_lv i) [] h3 (cs + 2000) (ss + 81000) := k (op_keenest (xs (i + 1)) S).2.2 h3 ⟨hok, I2.o101 W3.1.1 (fun a z => W3.1.2 a (by omega)), by rw [W3.1.1]; omega, ⟨ov2, (W3.1.2 122 (by omega)).trans o2⟩, A2, F2, B2, M3, W3.re (fun _ _ _ => rfl)⟩
  have h3o := (W3.1.2 122 (by omega)).trans o2
  refine nd_iload hC dL_law_2181 rfl ?_
  by_cases hz : (op_keenest (xs (i + 1)) S).1 = 0
  · have v3 : ov2 0 = (op_keenest (xs (i + 1)) S).2.1.toInt64 := v2 hz
    rw [show ((mp_i (op_keenest (xs (i + 1)))) S).1 = 0 from hz]
    refine nd_if_ne hC (tgt := 2198) dL_law_2183 (by decide) (fun hq => absurd rfl hq) (fun _ => ?_)
    refine nd_aload_n hC dL_law_2186 rfl rfl ?_
    refine nd_iconst hC (v := nI 0) (by rfl) dL_law_2187 ?_
    refine nd_laloadN hC h3o (by omega) (by omega) dL_law_2188 ?_
    refine nd_iload hC dL_law_2189 rfl ?_
    first | with_reducible refine nd_i2lN hC (by omega) dL_law_2191 ?_ | refine nd_i2l hC dL_law_2191 ?_
    refine nd_lcmp_eq hC (tgt := 2198) dL_law_2192 dL_law_2193 (by decide) (fun _ => ?_) (fun hq => absurd v3 hq)
    refine nd_goto hC (tgt := 2729) dL_law_2198 (by decide) ?_
    refine nd_drop 5 (nd_drop 6 ?_)
    exact nd_widen (by omega) (by omega) FIN
  · refine nd_if_ne hC (tgt := 2198) dL_law_2183 (by decide) (fun _ => ?_) (fun hq => absurd (lw_nz hbd (by omega) hz hq) id)
    refine nd_goto hC (tgt := 2729) dL_law_2198 (by decide) ?_
    refine nd_drop 5 (nd_drop 6 ?_)
    exact nd_widen (by omega) (by omega) FIN
theorem lc_39 (hg : nd_OK g) (hd : 1100 ≤ d) (hC : nd_Cx g mL_law X) (hx : sc_X g L xs) (hi : i + 6 ≤ L) (hL : L ≤ 384) (hn : n ≤ 64) (HI : lw_I n S h) (hcs : cs + 2000 ≤ mc) (hss : ss + 81000 ≤ ms) (k : ∀ S2 h2, lw_I (n + 1) S2 h2 → nd_W g mL_law d mc ms K X 2729 (lw_lv i) [] h2 (cs + 2000) (ss + 81000)) : nd_W g mL_law d mc ms K X 2201 (lw_lv i) [] h cs ss := by
  obtain ⟨hS, hI, hl, ⟨ov, hov⟩, A, F, B, hM, hW⟩ := id HI
  obtain ⟨⟨x0, hO⟩, -⟩ : (∃ x, cx_O h (nI (sy_b S).length) (nI (sy_fk S)) (sy_fp S) x) ∧ True := by
    obtain ⟨-, o, nap, ds, gi, dss, hK⟩ := hI
    exact ⟨hK.1, trivial⟩
  unfold cx_O at hO
  have hok : sy_ok (op_seen (xs (i + 1)) (xs (i + 2)) S).2.2 := by
    unfold op_seen
    repeat' split
    all_goals exact hS
  unfold lw_lv
  refine nd_aload_n hC dL_law_2201 rfl rfl ?_
  refine nd_aload_n hC dL_law_2202 rfl rfl ?_
  refine nd_iload hC dL_law_2203 rfl ?_
  refine nd_iconst hC (v := nI 1) (by rfl) dL_law_2205 ?_
  first | with_reducible refine nd_iaddN hC dL_law_2206 ?_ | refine nd_iadd hC dL_law_2206 ?_
  refine nd_sald (j := i + 1) hC hx (by omega) (by omega) dL_law_2207 ?_
  refine nd_aload_n hC dL_law_2208 rfl rfl ?_
  refine nd_iload hC dL_law_2209 rfl ?_
  refine nd_iconst hC (v := nI 2) (by rfl) dL_law_2211 ?_
  first | with_reducible refine nd_iaddN hC dL_law_2212 ?_ | refine nd_iadd hC dL_law_2212 ?_
  refine nd_sald (j := i + 2) hC hx (by omega) (by omega) dL_law_2213 ?_
  refine nd_aload_n hC dL_law_2214 rfl rfl ?_
  refine nd_callSX (mm2 := mX0_seen) (As := [_, _, _, _]) (mc2 := 16) (ms2 := 670) (d2 := d - 1) hC rfl lkL_278 lmX0_seen (Nat.le_of_ble_eq_true rfl) (by omega) rfl (by exact Nat.le_of_ble_eq_true rfl) (by omega) (by omega) dL_law_2215 rfl ((wx_seen hg (by omega) (xs (i + 1)) (xs (i + 2)) S h _ ov hS hI hl hov (fun h2 ov2 I2 l2 f2 o2 v2 => ?_)))
  have W2 : mo_W h2 A F B h2 := hW.re f2
  have hbd := wb_seen (xs (i + 1)) (xs (i + 2)) S
  refine nd_istore hC dL_law_2218 (Nat.le_of_ble_eq_true rfl) ?_
  refine nd_aload_n hC dL_law_2220 rfl rfl ?_
  refine nd_aload_n hC dL_law_2221 rfl rfl ?_
  refine nd_iload hC dL_law_2222 rfl ?_
  refine nd_iconst hC (v := nI 1) (by rfl) dL_law_2224 ?_
  first | with_reducible refine nd_iaddN hC dL_law_2225 ?_ | refine nd_iadd hC dL_law_2225 ?_
  refine nd_sald (j := i + 1) hC hx (by omega) (by omega) dL_law_2226 ?_
  refine nd_aload_n hC dL_law_2227 rfl rfl ?_
  refine nd_iload hC dL_law_2228 rfl ?_
  refine nd_iconst hC (v := nI 2) (by rfl) dL_law_2230 ?_
  first | with_reducible refine nd_iaddN hC dL_law_2231 ?_ | refine nd_iadd hC dL_law_2231 ?_
  refine nd_sald (j := i + 2) hC hx (by omega) (by omega) dL_law_2232 ?_
  refine nd_callV (mm2 := mX7_seen) (As := [_, _]) (mc2 := 0) (ms2 := 0) (d2 := d - 1) hC rfl lkL_280 ⟨rfl, lmX7_seen⟩ (W2.2.1) rfl (Nat.le_of_ble_eq_true rfl) (by omega) rfl (by exact Nat.le_of_ble_eq_true rfl) (by omega) (by omega) dL_law_2233 rfl ((mp_seen (h0 := h2) hg (by omega) (xs (i + 1)) (xs (i + 2)) (4 * n) S A F B h2 _ (by omega) hM hS W2 (fun A2 F2 B2 h3 M3 e4 W3 => ?_)))
  refine nd_istore hC dL_law_2236 (Nat.le_of_ble_eq_true rfl) ?_
  refine nd_aload_n hC dL_law_2238 rfl rfl ?_
  refine nd_callV (mm2 := mX7_thrown) (As := []) (mc2 := 0) (ms2 := 0) (d2 := d - 1) hC rfl lkL_151 ⟨rfl, lmX7_thrown⟩ (W3.2.1) rfl (Nat.le_of_ble_eq_true rfl) (by omega) rfl (by exact Nat.le_of_ble_eq_true rfl) (by omega) (by omega) dL_law_2239 rfl ((sp_thrown hg W3 ?_))
  rw [e4]
  refine nd_iload hC dL_law_2242 rfl ?_
  refine nd_icmp_eq hC (tgt := 2249) dL_law_2244 (by decide) (fun _ => ?_) (fun hq => absurd rfl hq)
  have FIN : nd_W g mL_law d mc ms K X 2729 (lw_lv i) [] h3 (cs + 2000) (ss + 81000) := k (op_seen (xs (i + 1)) (xs (i + 2)) S).2.2 h3 ⟨hok, I2.o101 W3.1.1 (fun a z => W3.1.2 a (by omega)), by rw [W3.1.1]; omega, ⟨ov2, (W3.1.2 122 (by omega)).trans o2⟩, A2, F2, B2, M3, W3.re (fun _ _ _ => rfl)⟩
  have h3o := (W3.1.2 122 (by omega)).trans o2
  refine nd_iload hC dL_law_2249 rfl ?_
  by_cases hz : (op_seen (xs (i + 1)) (xs (i + 2)) S).1 = 0
  · have v3 : ov2 0 = (op_seen (xs (i + 1)) (xs (i + 2)) S).2.1.toInt64 := v2 hz
    rw [show ((mp_i (op_seen (xs (i + 1)) (xs (i + 2)))) S).1 = 0 from hz]
    refine nd_if_ne hC (tgt := 2266) dL_law_2251 (by decide) (fun hq => absurd rfl hq) (fun _ => ?_)
    refine nd_aload_n hC dL_law_2254 rfl rfl ?_
    refine nd_iconst hC (v := nI 0) (by rfl) dL_law_2255 ?_
    refine nd_laloadN hC h3o (by omega) (by omega) dL_law_2256 ?_
    refine nd_iload hC dL_law_2257 rfl ?_
    first | with_reducible refine nd_i2lN hC (by omega) dL_law_2259 ?_ | refine nd_i2l hC dL_law_2259 ?_
    refine nd_lcmp_eq hC (tgt := 2266) dL_law_2260 dL_law_2261 (by decide) (fun _ => ?_) (fun hq => absurd v3 hq)
    refine nd_goto hC (tgt := 2729) dL_law_2266 (by decide) ?_
    refine nd_drop 5 (nd_drop 6 ?_)
    exact nd_widen (by omega) (by omega) FIN
  · refine nd_if_ne hC (tgt := 2266) dL_law_2251 (by decide) (fun _ => ?_) (fun hq => absurd (lw_nz hbd (by omega) hz hq) id)
    refine nd_goto hC (tgt := 2729) dL_law_2266 (by decide) ?_
    refine nd_drop 5 (nd_drop 6 ?_)
    exact nd_widen (by omega) (by omega) FIN
theorem lc_40 (hg : nd_OK g) (hd : 1100 ≤ d) (hC : nd_Cx g mL_law X) (hx : sc_X g L xs) (hi : i + 6 ≤ L) (hL : L ≤ 384) (hn : n ≤ 64) (HI : lw_I n S h) (hcs : cs + 2000 ≤ mc) (hss : ss + 81000 ≤ ms) (k : ∀ S2 h2, lw_I (n + 1) S2 h2 → nd_W g mL_law d mc ms K X 2729 (lw_lv i) [] h2 (cs + 2000) (ss + 81000)) : nd_W g mL_law d mc ms K X 2269 (lw_lv i) [] h cs ss := by
  obtain ⟨hS, hI, hl, ⟨ov, hov⟩, A, F, B, hM, hW⟩ := id HI
  obtain ⟨⟨x0, hO⟩, -⟩ : (∃ x, cx_O h (nI (sy_b S).length) (nI (sy_fk S)) (sy_fp S) x) ∧ True := by
    obtain ⟨-, o, nap, ds, gi, dss, hK⟩ := hI
    exact ⟨hK.1, trivial⟩
  unfold cx_O at hO
  have hok : sy_ok (op_sure (xs (i + 1)) (xs (i + 2)) S).2.2 := by
    unfold op_sure
    repeat' split
    all_goals exact hS
  unfold lw_lv
  refine nd_aload_n hC dL_law_2269 rfl rfl ?_
  refine nd_aload_n hC dL_law_2270 rfl rfl ?_
  refine nd_iload hC dL_law_2271 rfl ?_
  refine nd_iconst hC (v := nI 1) (by rfl) dL_law_2273 ?_
  first | with_reducible refine nd_iaddN hC dL_law_2274 ?_ | refine nd_iadd hC dL_law_2274 ?_
  refine nd_sald (j := i + 1) hC hx (by omega) (by omega) dL_law_2275 ?_
  refine nd_aload_n hC dL_law_2276 rfl rfl ?_
  refine nd_iload hC dL_law_2277 rfl ?_
  refine nd_iconst hC (v := nI 2) (by rfl) dL_law_2279 ?_
  first | with_reducible refine nd_iaddN hC dL_law_2280 ?_ | refine nd_iadd hC dL_law_2280 ?_
  refine nd_sald (j := i + 2) hC hx (by omega) (by omega) dL_law_2281 ?_
  refine nd_aload_n hC dL_law_2282 rfl rfl ?_
  refine nd_callSX (mm2 := mX0_sure) (As := [_, _, _, _]) (mc2 := 16) (ms2 := 670) (d2 := d - 1) hC rfl lkL_281 lmX0_sure (Nat.le_of_ble_eq_true rfl) (by omega) rfl (by exact Nat.le_of_ble_eq_true rfl) (by omega) (by omega) dL_law_2283 rfl ((wx_sure hg (by omega) (xs (i + 1)) (xs (i + 2)) S h _ ov hS hI hl hov (fun h2 ov2 I2 l2 f2 o2 v2 => ?_)))
  have W2 : mo_W h2 A F B h2 := hW.re f2
  have hbd := wb_sure (xs (i + 1)) (xs (i + 2)) S
  refine nd_istore hC dL_law_2286 (Nat.le_of_ble_eq_true rfl) ?_
  refine nd_aload_n hC dL_law_2288 rfl rfl ?_
  refine nd_aload_n hC dL_law_2289 rfl rfl ?_
  refine nd_iload hC dL_law_2290 rfl ?_
  refine nd_iconst hC (v := nI 1) (by rfl) dL_law_2292 ?_
  first | with_reducible refine nd_iaddN hC dL_law_2293 ?_ | refine nd_iadd hC dL_law_2293 ?_
  refine nd_sald (j := i + 1) hC hx (by omega) (by omega) dL_law_2294 ?_
  refine nd_aload_n hC dL_law_2295 rfl rfl ?_
  refine nd_iload hC dL_law_2296 rfl ?_
  refine nd_iconst hC (v := nI 2) (by rfl) dL_law_2298 ?_
  first | with_reducible refine nd_iaddN hC dL_law_2299 ?_ | refine nd_iadd hC dL_law_2299 ?_
  refine nd_sald (j := i + 2) hC hx (by omega) (by omega) dL_law_2300 ?_
  refine nd_callV (mm2 := mX7_sure) (As := [_, _]) (mc2 := 0) (ms2 := 0) (d2 := d - 1) hC rfl lkL_283 ⟨rfl, lmX7_sure⟩ (W2.2.1) rfl (Nat.le_of_ble_eq_true rfl) (by omega) rfl (by exact Nat.le_of_ble_eq_true rfl) (by omega) (by omega) dL_law_2301 rfl ((mp_sure (h0 := h2) hg (by omega) (xs (i + 1)) (xs (i + 2)) (4 * n) S A F B h2 _ (by omega) hM hS W2 (fun A2 F2 B2 h3 M3 e4 W3 => ?_)))
  refine nd_istore hC dL_law_2304 (Nat.le_of_ble_eq_true rfl) ?_
  refine nd_aload_n hC dL_law_2306 rfl rfl ?_
  refine nd_callV (mm2 := mX7_thrown) (As := []) (mc2 := 0) (ms2 := 0) (d2 := d - 1) hC rfl lkL_151 ⟨rfl, lmX7_thrown⟩ (W3.2.1) rfl (Nat.le_of_ble_eq_true rfl) (by omega) rfl (by exact Nat.le_of_ble_eq_true rfl) (by omega) (by omega) dL_law_2307 rfl ((sp_thrown hg W3 ?_))
  rw [e4]
  refine nd_iload hC dL_law_2310 rfl ?_
  refine nd_icmp_eq hC (tgt := 2317) dL_law_2312 (by decide) (fun _ => ?_) (fun hq => absurd rfl hq)
  have FIN : nd_W g mL_law d mc ms K X 2729 (lw_lv i) [] h3 (cs + 2000) (ss + 81000) := k (op_sure (xs (i + 1)) (xs (i + 2)) S).2.2 h3 ⟨hok, I2.o101 W3.1.1 (fun a z => W3.1.2 a (by omega)), by rw [W3.1.1]; omega, ⟨ov2, (W3.1.2 122 (by omega)).trans o2⟩, A2, F2, B2, M3, W3.re (fun _ _ _ => rfl)⟩
  have h3o := (W3.1.2 122 (by omega)).trans o2
  refine nd_iload hC dL_law_2317 rfl ?_
  by_cases hz : (op_sure (xs (i + 1)) (xs (i + 2)) S).1 = 0
  · have v3 : ov2 0 = (op_sure (xs (i + 1)) (xs (i + 2)) S).2.1.toInt64 := v2 hz
    rw [show ((mp_i (op_sure (xs (i + 1)) (xs (i + 2)))) S).1 = 0 from hz]
    refine nd_if_ne hC (tgt := 2334) dL_law_2319 (by decide) (fun hq => absurd rfl hq) (fun _ => ?_)
    refine nd_aload_n hC dL_law_2322 rfl rfl ?_
    refine nd_iconst hC (v := nI 0) (by rfl) dL_law_2323 ?_
    refine nd_laloadN hC h3o (by omega) (by omega) dL_law_2324 ?_
    refine nd_iload hC dL_law_2325 rfl ?_
    first | with_reducible refine nd_i2lN hC (by omega) dL_law_2327 ?_ | refine nd_i2l hC dL_law_2327 ?_
    refine nd_lcmp_eq hC (tgt := 2334) dL_law_2328 dL_law_2329 (by decide) (fun _ => ?_) (fun hq => absurd v3 hq)
    refine nd_goto hC (tgt := 2729) dL_law_2334 (by decide) ?_
    refine nd_drop 5 (nd_drop 6 ?_)
    exact nd_widen (by omega) (by omega) FIN
  · refine nd_if_ne hC (tgt := 2334) dL_law_2319 (by decide) (fun _ => ?_) (fun hq => absurd (lw_nz hbd (by omega) hz hq) id)
    refine nd_goto hC (tgt := 2729) dL_law_2334 (by decide) ?_
    refine nd_drop 5 (nd_drop 6 ?_)
    exact nd_widen (by omega) (by omega) FIN
theorem lc_41 (hg : nd_OK g) (hd : 1100 ≤ d) (hC : nd_Cx g mL_law X) (hx : sc_X g L xs) (hi : i + 6 ≤ L) (hL : L ≤ 384) (hn : n ≤ 64) (HI : lw_I n S h) (hcs : cs + 2000 ≤ mc) (hss : ss + 81000 ≤ ms) (k : ∀ S2 h2, lw_I (n + 1) S2 h2 → nd_W g mL_law d mc ms K X 2729 (lw_lv i) [] h2 (cs + 2000) (ss + 81000)) : nd_W g mL_law d mc ms K X 2337 (lw_lv i) [] h cs ss := by
  obtain ⟨hS, hI, hl, ⟨ov, hov⟩, A, F, B, hM, hW⟩ := id HI
  obtain ⟨⟨x0, hO⟩, -⟩ : (∃ x, cx_O h (nI (sy_b S).length) (nI (sy_fk S)) (sy_fp S) x) ∧ True := by
    obtain ⟨-, o, nap, ds, gi, dss, hK⟩ := hI
    exact ⟨hK.1, trivial⟩
  unfold cx_O at hO
  have hok : sy_ok (op_look (xs (i + 1)) (xs (i + 2)) S).2.2 := by
    unfold op_look
    repeat' split
    all_goals exact hS
  unfold lw_lv
  refine nd_aload_n hC dL_law_2337 rfl rfl ?_
  refine nd_aload_n hC dL_law_2338 rfl rfl ?_
  refine nd_iload hC dL_law_2339 rfl ?_
  refine nd_iconst hC (v := nI 1) (by rfl) dL_law_2341 ?_
  first | with_reducible refine nd_iaddN hC dL_law_2342 ?_ | refine nd_iadd hC dL_law_2342 ?_
  refine nd_sald (j := i + 1) hC hx (by omega) (by omega) dL_law_2343 ?_
  refine nd_aload_n hC dL_law_2344 rfl rfl ?_
  refine nd_iload hC dL_law_2345 rfl ?_
  refine nd_iconst hC (v := nI 2) (by rfl) dL_law_2347 ?_
  first | with_reducible refine nd_iaddN hC dL_law_2348 ?_ | refine nd_iadd hC dL_law_2348 ?_
  refine nd_sald (j := i + 2) hC hx (by omega) (by omega) dL_law_2349 ?_
  refine nd_aload_n hC dL_law_2350 rfl rfl ?_
  refine nd_callSX (mm2 := mX0_look) (As := [_, _, _, _]) (mc2 := 16) (ms2 := 670) (d2 := d - 1) hC rfl lkL_284 lmX0_look (Nat.le_of_ble_eq_true rfl) (by omega) rfl (by exact Nat.le_of_ble_eq_true rfl) (by omega) (by omega) dL_law_2351 rfl ((wx_look hg (by omega) (xs (i + 1)) (xs (i + 2)) S h _ ov hS hI hl hov (fun h2 ov2 I2 l2 f2 o2 v2 => ?_)))
  have W2 : mo_W h2 A F B h2 := hW.re f2
  have hbd := wb_look (xs (i + 1)) (xs (i + 2)) S
  refine nd_istore hC dL_law_2354 (Nat.le_of_ble_eq_true rfl) ?_
  refine nd_aload_n hC dL_law_2356 rfl rfl ?_
  refine nd_aload_n hC dL_law_2357 rfl rfl ?_
  refine nd_iload hC dL_law_2358 rfl ?_
  refine nd_iconst hC (v := nI 1) (by rfl) dL_law_2360 ?_
  first | with_reducible refine nd_iaddN hC dL_law_2361 ?_ | refine nd_iadd hC dL_law_2361 ?_
  refine nd_sald (j := i + 1) hC hx (by omega) (by omega) dL_law_2362 ?_
  refine nd_aload_n hC dL_law_2363 rfl rfl ?_
  refine nd_iload hC dL_law_2364 rfl ?_
  refine nd_iconst hC (v := nI 2) (by rfl) dL_law_2366 ?_
  first | with_reducible refine nd_iaddN hC dL_law_2367 ?_ | refine nd_iadd hC dL_law_2367 ?_
  refine nd_sald (j := i + 2) hC hx (by omega) (by omega) dL_law_2368 ?_
  refine nd_callV (mm2 := mX7_look) (As := [_, _]) (mc2 := 0) (ms2 := 0) (d2 := d - 1) hC rfl lkL_286 ⟨rfl, lmX7_look⟩ (W2.2.1) rfl (Nat.le_of_ble_eq_true rfl) (by omega) rfl (by exact Nat.le_of_ble_eq_true rfl) (by omega) (by omega) dL_law_2369 rfl ((mp_look (h0 := h2) hg (by omega) (xs (i + 1)) (xs (i + 2)) (4 * n) S A F B h2 _ (by omega) hM hS W2 (fun A2 F2 B2 h3 M3 e4 W3 => ?_)))
  refine nd_istore hC dL_law_2372 (Nat.le_of_ble_eq_true rfl) ?_
  refine nd_aload_n hC dL_law_2374 rfl rfl ?_
  refine nd_callV (mm2 := mX7_thrown) (As := []) (mc2 := 0) (ms2 := 0) (d2 := d - 1) hC rfl lkL_151 ⟨rfl, lmX7_thrown⟩ (W3.2.1) rfl (Nat.le_of_ble_eq_true rfl) (by omega) rfl (by exact Nat.le_of_ble_eq_true rfl) (by omega) (by omega) dL_law_2375 rfl ((sp_thrown hg W3 ?_))
  rw [e4]
  refine nd_iload hC dL_law_2378 rfl ?_
  refine nd_icmp_eq hC (tgt := 2385) dL_law_2380 (by decide) (fun _ => ?_) (fun hq => absurd rfl hq)
  have FIN : nd_W g mL_law d mc ms K X 2729 (lw_lv i) [] h3 (cs + 2000) (ss + 81000) := k (op_look (xs (i + 1)) (xs (i + 2)) S).2.2 h3 ⟨hok, I2.o101 W3.1.1 (fun a z => W3.1.2 a (by omega)), by rw [W3.1.1]; omega, ⟨ov2, (W3.1.2 122 (by omega)).trans o2⟩, A2, F2, B2, M3, W3.re (fun _ _ _ => rfl)⟩
  have h3o := (W3.1.2 122 (by omega)).trans o2
  refine nd_iload hC dL_law_2385 rfl ?_
  by_cases hz : (op_look (xs (i + 1)) (xs (i + 2)) S).1 = 0
  · have v3 : ov2 0 = (op_look (xs (i + 1)) (xs (i + 2)) S).2.1.toInt64 := v2 hz
    rw [show ((mp_i (op_look (xs (i + 1)) (xs (i + 2)))) S).1 = 0 from hz]
    refine nd_if_ne hC (tgt := 2402) dL_law_2387 (by decide) (fun hq => absurd rfl hq) (fun _ => ?_)
    refine nd_aload_n hC dL_law_2390 rfl rfl ?_
    refine nd_iconst hC (v := nI 0) (by rfl) dL_law_2391 ?_
    refine nd_laloadN hC h3o (by omega) (by omega) dL_law_2392 ?_
    refine nd_iload hC dL_law_2393 rfl ?_
    first | with_reducible refine nd_i2lN hC (by omega) dL_law_2395 ?_ | refine nd_i2l hC dL_law_2395 ?_
    refine nd_lcmp_eq hC (tgt := 2402) dL_law_2396 dL_law_2397 (by decide) (fun _ => ?_) (fun hq => absurd v3 hq)
    refine nd_goto hC (tgt := 2729) dL_law_2402 (by decide) ?_
    refine nd_drop 5 (nd_drop 6 ?_)
    exact nd_widen (by omega) (by omega) FIN
  · refine nd_if_ne hC (tgt := 2402) dL_law_2387 (by decide) (fun _ => ?_) (fun hq => absurd (lw_nz hbd (by omega) hz hq) id)
    refine nd_goto hC (tgt := 2729) dL_law_2402 (by decide) ?_
    refine nd_drop 5 (nd_drop 6 ?_)
    exact nd_widen (by omega) (by omega) FIN
theorem lc_42 (hg : nd_OK g) (hd : 1100 ≤ d) (hC : nd_Cx g mL_law X) (hx : sc_X g L xs) (hi : i + 6 ≤ L) (hL : L ≤ 384) (hn : n ≤ 64) (HI : lw_I n S h) (hcs : cs + 2000 ≤ mc) (hss : ss + 81000 ≤ ms) (k : ∀ S2 h2, lw_I (n + 1) S2 h2 → nd_W g mL_law d mc ms K X 2729 (lw_lv i) [] h2 (cs + 2000) (ss + 81000)) : nd_W g mL_law d mc ms K X 2405 (lw_lv i) [] h cs ss := by
  obtain ⟨hS, hI, hl, ⟨ov, hov⟩, A, F, B, hM, hW⟩ := id HI
  obtain ⟨⟨x0, hO⟩, -⟩ : (∃ x, cx_O h (nI (sy_b S).length) (nI (sy_fk S)) (sy_fp S) x) ∧ True := by
    obtain ⟨-, o, nap, ds, gi, dss, hK⟩ := hI
    exact ⟨hK.1, trivial⟩
  unfold cx_O at hO
  have hok : sy_ok (op_tray (xs (i + 1)) (xs (i + 2)) (xs (i + 3)) S).2.2 := ok_tray hS
  unfold lw_lv
  refine nd_aload_n hC dL_law_2405 rfl rfl ?_
  refine nd_aload_n hC dL_law_2406 rfl rfl ?_
  refine nd_iload hC dL_law_2407 rfl ?_
  refine nd_iconst hC (v := nI 1) (by rfl) dL_law_2409 ?_
  first | with_reducible refine nd_iaddN hC dL_law_2410 ?_ | refine nd_iadd hC dL_law_2410 ?_
  refine nd_sald (j := i + 1) hC hx (by omega) (by omega) dL_law_2411 ?_
  refine nd_aload_n hC dL_law_2412 rfl rfl ?_
  refine nd_iload hC dL_law_2413 rfl ?_
  refine nd_iconst hC (v := nI 2) (by rfl) dL_law_2415 ?_
  first | with_reducible refine nd_iaddN hC dL_law_2416 ?_ | refine nd_iadd hC dL_law_2416 ?_
  refine nd_sald (j := i + 2) hC hx (by omega) (by omega) dL_law_2417 ?_
  refine nd_aload_n hC dL_law_2418 rfl rfl ?_
  refine nd_iload hC dL_law_2419 rfl ?_
  refine nd_iconst hC (v := nI 3) (by rfl) dL_law_2421 ?_
  first | with_reducible refine nd_iaddN hC dL_law_2422 ?_ | refine nd_iadd hC dL_law_2422 ?_
  refine nd_sald (j := i + 3) hC hx (by omega) (by omega) dL_law_2423 ?_
  refine nd_callSX (mm2 := mX0_tray) (As := [_, _, _, _]) (mc2 := 8) (ms2 := 130) (d2 := d - 1) hC rfl lkL_287 lmX0_tray (Nat.le_of_ble_eq_true rfl) (by omega) rfl (by exact Nat.le_of_ble_eq_true rfl) (by omega) (by omega) dL_law_2424 rfl ((wx_tray hg (by omega) (xs (i + 1)) (xs (i + 2)) (xs (i + 3)) S h _ ov hS hI hl hov (fun h2 ov2 I2 l2 f2 o2 v2 => ?_)))
  have W2 : mo_W h2 A F B h2 := hW.re f2
  have hbd := wb_tray (xs (i + 1)) (xs (i + 2)) (xs (i + 3)) S
  refine nd_istore hC dL_law_2427 (Nat.le_of_ble_eq_true rfl) ?_
  refine nd_aload_n hC dL_law_2429 rfl rfl ?_
  refine nd_aload_n hC dL_law_2430 rfl rfl ?_
  refine nd_iload hC dL_law_2431 rfl ?_
  refine nd_iconst hC (v := nI 1) (by rfl) dL_law_2433 ?_
  first | with_reducible refine nd_iaddN hC dL_law_2434 ?_ | refine nd_iadd hC dL_law_2434 ?_
  refine nd_sald (j := i + 1) hC hx (by omega) (by omega) dL_law_2435 ?_
  refine nd_aload_n hC dL_law_2436 rfl rfl ?_
  refine nd_iload hC dL_law_2437 rfl ?_
  refine nd_iconst hC (v := nI 2) (by rfl) dL_law_2439 ?_
  first | with_reducible refine nd_iaddN hC dL_law_2440 ?_ | refine nd_iadd hC dL_law_2440 ?_
  refine nd_sald (j := i + 2) hC hx (by omega) (by omega) dL_law_2441 ?_
  refine nd_aload_n hC dL_law_2442 rfl rfl ?_
  refine nd_iload hC dL_law_2443 rfl ?_
  refine nd_iconst hC (v := nI 3) (by rfl) dL_law_2445 ?_
  first | with_reducible refine nd_iaddN hC dL_law_2446 ?_ | refine nd_iadd hC dL_law_2446 ?_
  refine nd_sald (j := i + 3) hC hx (by omega) (by omega) dL_law_2447 ?_
  refine nd_callV (mm2 := mX7_tray) (As := [_, _, _]) (mc2 := 0) (ms2 := 0) (d2 := d - 1) hC rfl lkL_290 ⟨rfl, lmX7_tray⟩ (W2.2.1) rfl (Nat.le_of_ble_eq_true rfl) (by omega) rfl (by exact Nat.le_of_ble_eq_true rfl) (by omega) (by omega) dL_law_2448 rfl ((mp_tray (h0 := h2) hg (by omega) (xs (i + 1)) (xs (i + 2)) (xs (i + 3)) (4 * n) S A F B h2 _ (by omega) hM hS W2 (fun A2 F2 B2 h3 M3 e4 W3 => ?_)))
  refine nd_aload_n hC dL_law_2451 rfl rfl ?_
  refine nd_callV (mm2 := mX7_thrown) (As := []) (mc2 := 0) (ms2 := 0) (d2 := d - 1) hC rfl lkL_151 ⟨rfl, lmX7_thrown⟩ (W3.2.1) rfl (Nat.le_of_ble_eq_true rfl) (by omega) rfl (by exact Nat.le_of_ble_eq_true rfl) (by omega) (by omega) dL_law_2452 rfl ((sp_thrown hg W3 ?_))
  rw [e4]
  refine nd_iload hC dL_law_2455 rfl ?_
  refine nd_icmp_eq hC (tgt := 2462) dL_law_2457 (by decide) (fun _ => ?_) (fun hq => absurd rfl hq)
  have FIN : nd_W g mL_law d mc ms K X 2729 (lw_lv i) [] h3 (cs + 2000) (ss + 81000) := k (op_tray (xs (i + 1)) (xs (i + 2)) (xs (i + 3)) S).2.2 h3 ⟨hok, I2.o101 W3.1.1 (fun a z => W3.1.2 a (by omega)), by rw [W3.1.1]; omega, ⟨ov2, (W3.1.2 122 (by omega)).trans o2⟩, A2, F2, B2, M3, W3.re (fun _ _ _ => rfl)⟩
  refine nd_goto hC (tgt := 2729) dL_law_2462 (by decide) ?_
  refine nd_drop 5 ?_
  exact nd_widen (by omega) (by omega) FIN
theorem lc_43 (hg : nd_OK g) (hd : 1100 ≤ d) (hC : nd_Cx g mL_law X) (hx : sc_X g L xs) (hi : i + 6 ≤ L) (hL : L ≤ 384) (hn : n ≤ 64) (HI : lw_I n S h) (hcs : cs + 2000 ≤ mc) (hss : ss + 81000 ≤ ms) (k : ∀ S2 h2, lw_I (n + 1) S2 h2 → nd_W g mL_law d mc ms K X 2729 (lw_lv i) [] h2 (cs + 2000) (ss + 81000)) : nd_W g mL_law d mc ms K X 2465 (lw_lv i) [] h cs ss := by
  obtain ⟨hS, hI, hl, ⟨ov, hov⟩, A, F, B, hM, hW⟩ := id HI
  obtain ⟨⟨x0, hO⟩, -⟩ : (∃ x, cx_O h (nI (sy_b S).length) (nI (sy_fk S)) (sy_fp S) x) ∧ True := by
    obtain ⟨-, o, nap, ds, gi, dss, hK⟩ := hI
    exact ⟨hK.1, trivial⟩
  unfold cx_O at hO
  have hok : sy_ok (op_write (xs (i + 1)) (xs (i + 2)) (((xs (i + 3)).toInt64 <<< 32) ||| ((xs (i + 4)).toInt64 &&& 4294967295)) S).2.2 := ok_write hS
  unfold lw_lv
  refine nd_aload_n hC dL_law_2465 rfl rfl ?_
  refine nd_aload_n hC dL_law_2466 rfl rfl ?_
  refine nd_iload hC dL_law_2467 rfl ?_
  refine nd_iconst hC (v := nI 1) (by rfl) dL_law_2469 ?_
  first | with_reducible refine nd_iaddN hC dL_law_2470 ?_ | refine nd_iadd hC dL_law_2470 ?_
  refine nd_sald (j := i + 1) hC hx (by omega) (by omega) dL_law_2471 ?_
  refine nd_aload_n hC dL_law_2472 rfl rfl ?_
  refine nd_iload hC dL_law_2473 rfl ?_
  refine nd_iconst hC (v := nI 2) (by rfl) dL_law_2475 ?_
  first | with_reducible refine nd_iaddN hC dL_law_2476 ?_ | refine nd_iadd hC dL_law_2476 ?_
  refine nd_sald (j := i + 2) hC hx (by omega) (by omega) dL_law_2477 ?_
  refine nd_aload_n hC dL_law_2478 rfl rfl ?_
  refine nd_iload hC dL_law_2479 rfl ?_
  refine nd_iconst hC (v := nI 3) (by rfl) dL_law_2481 ?_
  first | with_reducible refine nd_iaddN hC dL_law_2482 ?_ | refine nd_iadd hC dL_law_2482 ?_
  refine nd_sald (j := i + 3) hC hx (by omega) (by omega) dL_law_2483 ?_
  first | with_reducible refine nd_i2lN hC (by omega) dL_law_2484 ?_ | refine nd_i2l hC dL_law_2484 ?_
  refine nd_bipush hC (v := nI 32) (by rfl) dL_law_2485 ?_
  refine nd_lshl hC dL_law_2487 ?_
  refine nd_aload_n hC dL_law_2488 rfl rfl ?_
  refine nd_iload hC dL_law_2489 rfl ?_
  refine nd_iconst hC (v := nI 4) (by rfl) dL_law_2491 ?_
  first | with_reducible refine nd_iaddN hC dL_law_2492 ?_ | refine nd_iadd hC dL_law_2492 ?_
  refine nd_sald (j := i + 4) hC hx (by omega) (by omega) dL_law_2493 ?_
  first | with_reducible refine nd_i2lN hC (by omega) dL_law_2494 ?_ | refine nd_i2l hC dL_law_2494 ?_
  refine nd_ldc2 hC q3483 dL_law_2495 ?_
  refine nd_v_eq (y := .long (lN 4294967295)) (by rfl) ?_
  refine nd_land hC dL_law_2498 ?_
  refine nd_lor hC dL_law_2499 ?_
  refine nd_aload_n hC dL_law_2500 rfl rfl ?_
  refine nd_callSX (mm2 := mX0_write) (As := [_, _, _, _, _]) (mc2 := 8) (ms2 := 300) (d2 := d - 1) hC rfl lkL_293 lmX0_write (Nat.le_of_ble_eq_true rfl) (by omega) rfl (by exact Nat.le_of_ble_eq_true rfl) (by omega) (by omega) dL_law_2501 rfl ((wx_write hg (by omega) (xs (i + 1)) (xs (i + 2)) (((xs (i + 3)).toInt64 <<< 32) ||| ((xs (i + 4)).toInt64 &&& 4294967295)) S h _ ov hS hI hl hov (fun h2 ov2 I2 l2 f2 o2 v2 => ?_)))
  have W2 : mo_W h2 A F B h2 := hW.re f2
  have hbd := wb_write (xs (i + 1)) (xs (i + 2)) (((xs (i + 3)).toInt64 <<< 32) ||| ((xs (i + 4)).toInt64 &&& 4294967295)) S
  refine nd_istore hC dL_law_2504 (Nat.le_of_ble_eq_true rfl) ?_
  refine nd_aload_n hC dL_law_2506 rfl rfl ?_
  refine nd_aload_n hC dL_law_2507 rfl rfl ?_
  refine nd_iload hC dL_law_2508 rfl ?_
  refine nd_iconst hC (v := nI 1) (by rfl) dL_law_2510 ?_
  first | with_reducible refine nd_iaddN hC dL_law_2511 ?_ | refine nd_iadd hC dL_law_2511 ?_
  refine nd_sald (j := i + 1) hC hx (by omega) (by omega) dL_law_2512 ?_
  refine nd_aload_n hC dL_law_2513 rfl rfl ?_
  refine nd_iload hC dL_law_2514 rfl ?_
  refine nd_iconst hC (v := nI 2) (by rfl) dL_law_2516 ?_
  first | with_reducible refine nd_iaddN hC dL_law_2517 ?_ | refine nd_iadd hC dL_law_2517 ?_
  refine nd_sald (j := i + 2) hC hx (by omega) (by omega) dL_law_2518 ?_
  refine nd_aload_n hC dL_law_2519 rfl rfl ?_
  refine nd_iload hC dL_law_2520 rfl ?_
  refine nd_iconst hC (v := nI 3) (by rfl) dL_law_2522 ?_
  first | with_reducible refine nd_iaddN hC dL_law_2523 ?_ | refine nd_iadd hC dL_law_2523 ?_
  refine nd_sald (j := i + 3) hC hx (by omega) (by omega) dL_law_2524 ?_
  first | with_reducible refine nd_i2lN hC (by omega) dL_law_2525 ?_ | refine nd_i2l hC dL_law_2525 ?_
  refine nd_bipush hC (v := nI 32) (by rfl) dL_law_2526 ?_
  refine nd_lshl hC dL_law_2528 ?_
  refine nd_aload_n hC dL_law_2529 rfl rfl ?_
  refine nd_iload hC dL_law_2530 rfl ?_
  refine nd_iconst hC (v := nI 4) (by rfl) dL_law_2532 ?_
  first | with_reducible refine nd_iaddN hC dL_law_2533 ?_ | refine nd_iadd hC dL_law_2533 ?_
  refine nd_sald (j := i + 4) hC hx (by omega) (by omega) dL_law_2534 ?_
  first | with_reducible refine nd_i2lN hC (by omega) dL_law_2535 ?_ | refine nd_i2l hC dL_law_2535 ?_
  refine nd_ldc2 hC q3483 dL_law_2536 ?_
  refine nd_v_eq (y := .long (lN 4294967295)) (by rfl) ?_
  refine nd_land hC dL_law_2539 ?_
  refine nd_lor hC dL_law_2540 ?_
  refine nd_callV (mm2 := mX7_write) (As := [_, _, _]) (mc2 := 0) (ms2 := 0) (d2 := d - 1) hC rfl lkL_296 ⟨rfl, lmX7_write⟩ (W2.2.1) rfl (Nat.le_of_ble_eq_true rfl) (by omega) rfl (by exact Nat.le_of_ble_eq_true rfl) (by omega) (by omega) dL_law_2541 rfl ((mp_write (h0 := h2) hg (by omega) (xs (i + 1)) (xs (i + 2)) (((xs (i + 3)).toInt64 <<< 32) ||| ((xs (i + 4)).toInt64 &&& 4294967295)) (4 * n) S A F B h2 _ (by omega) hM hS W2 (fun A2 F2 B2 h3 M3 e4 W3 => ?_)))
  refine nd_lstore hC dL_law_2544 (Nat.le_of_ble_eq_true rfl) ?_
  refine nd_aload_n hC dL_law_2546 rfl rfl ?_
  refine nd_callV (mm2 := mX7_thrown) (As := []) (mc2 := 0) (ms2 := 0) (d2 := d - 1) hC rfl lkL_151 ⟨rfl, lmX7_thrown⟩ (W3.2.1) rfl (Nat.le_of_ble_eq_true rfl) (by omega) rfl (by exact Nat.le_of_ble_eq_true rfl) (by omega) (by omega) dL_law_2547 rfl ((sp_thrown hg W3 ?_))
  rw [e4]
  refine nd_iload hC dL_law_2550 rfl ?_
  refine nd_icmp_eq hC (tgt := 2557) dL_law_2552 (by decide) (fun _ => ?_) (fun hq => absurd rfl hq)
  have FIN : nd_W g mL_law d mc ms K X 2729 (lw_lv i) [] h3 (cs + 2000) (ss + 81000) := k (op_write (xs (i + 1)) (xs (i + 2)) (((xs (i + 3)).toInt64 <<< 32) ||| ((xs (i + 4)).toInt64 &&& 4294967295)) S).2.2 h3 ⟨hok, I2.o101 W3.1.1 (fun a z => W3.1.2 a (by omega)), by rw [W3.1.1]; omega, ⟨ov2, (W3.1.2 122 (by omega)).trans o2⟩, A2, F2, B2, M3, W3.re (fun _ _ _ => rfl)⟩
  have h3o := (W3.1.2 122 (by omega)).trans o2
  refine nd_iload hC dL_law_2557 rfl ?_
  by_cases hz : (op_write (xs (i + 1)) (xs (i + 2)) (((xs (i + 3)).toInt64 <<< 32) ||| ((xs (i + 4)).toInt64 &&& 4294967295)) S).1 = 0
  · have v3 : ov2 0 = (op_write (xs (i + 1)) (xs (i + 2)) (((xs (i + 3)).toInt64 <<< 32) ||| ((xs (i + 4)).toInt64 &&& 4294967295)) S).2.1 := v2 hz
    rw [show ((mp_j (op_write (xs (i + 1)) (xs (i + 2)) (((xs (i + 3)).toInt64 <<< 32) ||| ((xs (i + 4)).toInt64 &&& 4294967295)))) S).1 = 0 from hz]
    refine nd_if_ne hC (tgt := 2573) dL_law_2559 (by decide) (fun hq => absurd rfl hq) (fun _ => ?_)
    refine nd_aload_n hC dL_law_2562 rfl rfl ?_
    refine nd_iconst hC (v := nI 0) (by rfl) dL_law_2563 ?_
    refine nd_laloadN hC h3o (by omega) (by omega) dL_law_2564 ?_
    refine nd_lload hC dL_law_2565 rfl ?_
    refine nd_lcmp_eq hC (tgt := 2573) dL_law_2567 dL_law_2568 (by decide) (fun _ => ?_) (fun hq => absurd v3 hq)
    refine nd_goto hC (tgt := 2729) dL_law_2573 (by decide) ?_
    refine nd_drop 5 (nd_drop 6 (nd_drop 7 ?_))
    exact nd_widen (by omega) (by omega) FIN
  · refine nd_if_ne hC (tgt := 2573) dL_law_2559 (by decide) (fun _ => ?_) (fun hq => absurd (lw_nz hbd (by omega) hz hq) id)
    refine nd_goto hC (tgt := 2729) dL_law_2573 (by decide) ?_
    refine nd_drop 5 (nd_drop 6 (nd_drop 7 ?_))
    exact nd_widen (by omega) (by omega) FIN
theorem lc_44 (hg : nd_OK g) (hd : 1100 ≤ d) (hC : nd_Cx g mL_law X) (hx : sc_X g L xs) (hi : i + 6 ≤ L) (hL : L ≤ 384) (hn : n ≤ 64) (HI : lw_I n S h) (hcs : cs + 2000 ≤ mc) (hss : ss + 81000 ≤ ms) (k : ∀ S2 h2, lw_I (n + 1) S2 h2 → nd_W g mL_law d mc ms K X 2729 (lw_lv i) [] h2 (cs + 2000) (ss + 81000)) : nd_W g mL_law d mc ms K X 2576 (lw_lv i) [] h cs ss := by
  obtain ⟨hS, hI, hl, ⟨ov, hov⟩, A, F, B, hM, hW⟩ := id HI
  obtain ⟨⟨x0, hO⟩, -⟩ : (∃ x, cx_O h (nI (sy_b S).length) (nI (sy_fk S)) (sy_fp S) x) ∧ True := by
    obtain ⟨-, o, nap, ds, gi, dss, hK⟩ := hI
    exact ⟨hK.1, trivial⟩
  unfold cx_O at hO
  have hok : sy_ok (op_copy (xs (i + 1)) S).2.2 := ok_copy hS
  unfold lw_lv
  refine nd_aload_n hC dL_law_2576 rfl rfl ?_
  refine nd_aload_n hC dL_law_2577 rfl rfl ?_
  refine nd_iload hC dL_law_2578 rfl ?_
  refine nd_iconst hC (v := nI 1) (by rfl) dL_law_2580 ?_
  first | with_reducible refine nd_iaddN hC dL_law_2581 ?_ | refine nd_iadd hC dL_law_2581 ?_
  refine nd_sald (j := i + 1) hC hx (by omega) (by omega) dL_law_2582 ?_
  refine nd_aload_n hC dL_law_2583 rfl rfl ?_
  refine nd_callSX (mm2 := mX0_copy) (As := [_, _, _]) (mc2 := 2) (ms2 := 12) (d2 := d - 1) hC rfl lkL_297 lmX0_copy (Nat.le_of_ble_eq_true rfl) (by omega) rfl (by exact Nat.le_of_ble_eq_true rfl) (by omega) (by omega) dL_law_2584 rfl ((wx_copy hg (by omega) (xs (i + 1)) S h _ ov hS hI hl hov (fun h2 ov2 I2 l2 f2 o2 v2 => ?_)))
  have W2 : mo_W h2 A F B h2 := hW.re f2
  have hbd := wb_copy (xs (i + 1)) S
  refine nd_istore hC dL_law_2587 (Nat.le_of_ble_eq_true rfl) ?_
  refine nd_aload_n hC dL_law_2589 rfl rfl ?_
  refine nd_aload_n hC dL_law_2590 rfl rfl ?_
  refine nd_iload hC dL_law_2591 rfl ?_
  refine nd_iconst hC (v := nI 1) (by rfl) dL_law_2593 ?_
  first | with_reducible refine nd_iaddN hC dL_law_2594 ?_ | refine nd_iadd hC dL_law_2594 ?_
  refine nd_sald (j := i + 1) hC hx (by omega) (by omega) dL_law_2595 ?_
  refine nd_callV (mm2 := mX7_copy) (As := [_]) (mc2 := 0) (ms2 := 0) (d2 := d - 1) hC rfl lkL_299 ⟨rfl, lmX7_copy⟩ (W2.2.1) rfl (Nat.le_of_ble_eq_true rfl) (by omega) rfl (by exact Nat.le_of_ble_eq_true rfl) (by omega) (by omega) dL_law_2596 rfl ((mp_copy (h0 := h2) hg (by omega) (xs (i + 1)) (4 * n) S A F B h2 _ (by omega) hM hS W2 (fun A2 F2 B2 h3 M3 e4 W3 => ?_)))
  refine nd_istore hC dL_law_2599 (Nat.le_of_ble_eq_true rfl) ?_
  refine nd_aload_n hC dL_law_2601 rfl rfl ?_
  refine nd_callV (mm2 := mX7_thrown) (As := []) (mc2 := 0) (ms2 := 0) (d2 := d - 1) hC rfl lkL_151 ⟨rfl, lmX7_thrown⟩ (W3.2.1) rfl (Nat.le_of_ble_eq_true rfl) (by omega) rfl (by exact Nat.le_of_ble_eq_true rfl) (by omega) (by omega) dL_law_2602 rfl ((sp_thrown hg W3 ?_))
  rw [e4]
  refine nd_iload hC dL_law_2605 rfl ?_
  refine nd_icmp_eq hC (tgt := 2612) dL_law_2607 (by decide) (fun _ => ?_) (fun hq => absurd rfl hq)
  have FIN : nd_W g mL_law d mc ms K X 2729 (lw_lv i) [] h3 (cs + 2000) (ss + 81000) := k (op_copy (xs (i + 1)) S).2.2 h3 ⟨hok, I2.o101 W3.1.1 (fun a z => W3.1.2 a (by omega)), by rw [W3.1.1]; omega, ⟨ov2, (W3.1.2 122 (by omega)).trans o2⟩, A2, F2, B2, M3, W3.re (fun _ _ _ => rfl)⟩
  have h3o := (W3.1.2 122 (by omega)).trans o2
  refine nd_iload hC dL_law_2612 rfl ?_
  by_cases hz : (op_copy (xs (i + 1)) S).1 = 0
  · have v3 : ov2 0 = (op_copy (xs (i + 1)) S).2.1.toInt64 := v2 hz
    rw [show ((mp_i (op_copy (xs (i + 1)))) S).1 = 0 from hz]
    refine nd_if_ne hC (tgt := 2629) dL_law_2614 (by decide) (fun hq => absurd rfl hq) (fun _ => ?_)
    refine nd_aload_n hC dL_law_2617 rfl rfl ?_
    refine nd_iconst hC (v := nI 0) (by rfl) dL_law_2618 ?_
    refine nd_laloadN hC h3o (by omega) (by omega) dL_law_2619 ?_
    refine nd_iload hC dL_law_2620 rfl ?_
    first | with_reducible refine nd_i2lN hC (by omega) dL_law_2622 ?_ | refine nd_i2l hC dL_law_2622 ?_
    refine nd_lcmp_eq hC (tgt := 2629) dL_law_2623 dL_law_2624 (by decide) (fun _ => ?_) (fun hq => absurd v3 hq)
    refine nd_goto hC (tgt := 2729) dL_law_2629 (by decide) ?_
    refine nd_drop 5 (nd_drop 6 ?_)
    exact nd_widen (by omega) (by omega) FIN
  · refine nd_if_ne hC (tgt := 2629) dL_law_2614 (by decide) (fun _ => ?_) (fun hq => absurd (lw_nz hbd (by omega) hz hq) id)
    refine nd_goto hC (tgt := 2729) dL_law_2629 (by decide) ?_
    refine nd_drop 5 (nd_drop 6 ?_)
    exact nd_widen (by omega) (by omega) FIN
theorem lc_45 (hg : nd_OK g) (hd : 1100 ≤ d) (hC : nd_Cx g mL_law X) (hx : sc_X g L xs) (hi : i + 6 ≤ L) (hL : L ≤ 384) (hn : n ≤ 64) (HI : lw_I n S h) (hcs : cs + 2000 ≤ mc) (hss : ss + 81000 ≤ ms) (k : ∀ S2 h2, lw_I (n + 1) S2 h2 → nd_W g mL_law d mc ms K X 2729 (lw_lv i) [] h2 (cs + 2000) (ss + 81000)) : nd_W g mL_law d mc ms K X 2632 (lw_lv i) [] h cs ss := by
  obtain ⟨hS, hI, hl, ⟨ov, hov⟩, A, F, B, hM, hW⟩ := id HI
  obtain ⟨⟨x0, hO⟩, -⟩ : (∃ x, cx_O h (nI (sy_b S).length) (nI (sy_fk S)) (sy_fp S) x) ∧ True := by
    obtain ⟨-, o, nap, ds, gi, dss, hK⟩ := hI
    exact ⟨hK.1, trivial⟩
  unfold cx_O at hO
  have hok : sy_ok (op_image (xs (i + 1)) S).2.2 := ok_image hS
  unfold lw_lv
  refine nd_aload_n hC dL_law_2632 rfl rfl ?_
  refine nd_aload_n hC dL_law_2633 rfl rfl ?_
  refine nd_iload hC dL_law_2634 rfl ?_
  refine nd_iconst hC (v := nI 1) (by rfl) dL_law_2636 ?_
  first | with_reducible refine nd_iaddN hC dL_law_2637 ?_ | refine nd_iadd hC dL_law_2637 ?_
  refine nd_sald (j := i + 1) hC hx (by omega) (by omega) dL_law_2638 ?_
  refine nd_callSX (mm2 := mX0_image) (As := [_, _]) (mc2 := 110) (ms2 := 600) (d2 := d - 1) hC rfl lkL_300 lmX0_image (Nat.le_of_ble_eq_true rfl) (by omega) rfl (by exact Nat.le_of_ble_eq_true rfl) (by omega) (by omega) dL_law_2639 rfl ((wx_image hg (by omega) (xs (i + 1)) S h _ ov hS hI hl hov (fun h2 ov2 I2 l2 f2 o2 v2 => ?_)))
  have W2 : mo_W h2 A F B h2 := hW.re f2
  have hbd := wb_image (xs (i + 1)) S
  refine nd_istore hC dL_law_2642 (Nat.le_of_ble_eq_true rfl) ?_
  refine nd_aload_n hC dL_law_2644 rfl rfl ?_
  refine nd_aload_n hC dL_law_2645 rfl rfl ?_
  refine nd_iload hC dL_law_2646 rfl ?_
  refine nd_iconst hC (v := nI 1) (by rfl) dL_law_2648 ?_
  first | with_reducible refine nd_iaddN hC dL_law_2649 ?_ | refine nd_iadd hC dL_law_2649 ?_
  refine nd_sald (j := i + 1) hC hx (by omega) (by omega) dL_law_2650 ?_
  refine nd_callV (mm2 := mX7_image) (As := [_]) (mc2 := 0) (ms2 := 0) (d2 := d - 1) hC rfl lkL_303 ⟨rfl, lmX7_image⟩ (W2.2.1) rfl (Nat.le_of_ble_eq_true rfl) (by omega) rfl (by exact Nat.le_of_ble_eq_true rfl) (by omega) (by omega) dL_law_2651 rfl ((mp_image (h0 := h2) hg (by omega) (xs (i + 1)) (4 * n) S A F B h2 _ (by omega) hM hS W2 (fun A2 F2 B2 h3 M3 e4 W3 => ?_)))
  refine nd_aload_n hC dL_law_2654 rfl rfl ?_
  refine nd_callV (mm2 := mX7_thrown) (As := []) (mc2 := 0) (ms2 := 0) (d2 := d - 1) hC rfl lkL_151 ⟨rfl, lmX7_thrown⟩ (W3.2.1) rfl (Nat.le_of_ble_eq_true rfl) (by omega) rfl (by exact Nat.le_of_ble_eq_true rfl) (by omega) (by omega) dL_law_2655 rfl ((sp_thrown hg W3 ?_))
  rw [e4]
  refine nd_iload hC dL_law_2658 rfl ?_
  refine nd_icmp_eq hC (tgt := 2665) dL_law_2660 (by decide) (fun _ => ?_) (fun hq => absurd rfl hq)
  have FIN : nd_W g mL_law d mc ms K X 2729 (lw_lv i) [] h3 (cs + 2000) (ss + 81000) := k (op_image (xs (i + 1)) S).2.2 h3 ⟨hok, I2.o101 W3.1.1 (fun a z => W3.1.2 a (by omega)), by rw [W3.1.1]; omega, ⟨ov2, (W3.1.2 122 (by omega)).trans o2⟩, A2, F2, B2, M3, W3.re (fun _ _ _ => rfl)⟩
  refine nd_goto hC (tgt := 2729) dL_law_2665 (by decide) ?_
  refine nd_drop 5 ?_
  exact nd_widen (by omega) (by omega) FIN
theorem lc_46 (hg : nd_OK g) (hd : 1100 ≤ d) (hC : nd_Cx g mL_law X) (hx : sc_X g L xs) (hi : i + 6 ≤ L) (hL : L ≤ 384) (hn : n ≤ 64) (HI : lw_I n S h) (hcs : cs + 2000 ≤ mc) (hss : ss + 81000 ≤ ms) (k : ∀ S2 h2, lw_I (n + 1) S2 h2 → nd_W g mL_law d mc ms K X 2729 (lw_lv i) [] h2 (cs + 2000) (ss + 81000)) : nd_W g mL_law d mc ms K X 2668 (lw_lv i) [] h cs ss := by
  obtain ⟨hS, hI, hl, ⟨ov, hov⟩, A, F, B, hM, hW⟩ := id HI
  obtain ⟨⟨x0, hO⟩, -⟩ : (∃ x, cx_O h (nI (sy_b S).length) (nI (sy_fk S)) (sy_fp S) x) ∧ True := by
    obtain ⟨-, o, nap, ds, gi, dss, hK⟩ := hI
    exact ⟨hK.1, trivial⟩
  unfold cx_O at hO
  have hok : sy_ok (op_restore (xs (i + 1)) S).2.2 := ok_restore hS
  unfold lw_lv
  refine nd_aload_n hC dL_law_2668 rfl rfl ?_
  refine nd_aload_n hC dL_law_2669 rfl rfl ?_
  refine nd_iload hC dL_law_2670 rfl ?_
  refine nd_iconst hC (v := nI 1) (by rfl) dL_law_2672 ?_
  first | with_reducible refine nd_iaddN hC dL_law_2673 ?_ | refine nd_iadd hC dL_law_2673 ?_
  refine nd_sald (j := i + 1) hC hx (by omega) (by omega) dL_law_2674 ?_
  refine nd_callSX (mm2 := mX0_restore) (As := [_, _]) (mc2 := 110) (ms2 := 600) (d2 := d - 1) hC rfl lkL_304 lmX0_restore (Nat.le_of_ble_eq_true rfl) (by omega) rfl (by exact Nat.le_of_ble_eq_true rfl) (by omega) (by omega) dL_law_2675 rfl ((wx_restore hg (by omega) (xs (i + 1)) S h _ ov hS hI hl hov (fun h2 ov2 I2 l2 f2 o2 v2 => ?_)))
  have W2 : mo_W h2 A F B h2 := hW.re f2
  have hbd := wb_restore (xs (i + 1)) S
  refine nd_istore hC dL_law_2678 (Nat.le_of_ble_eq_true rfl) ?_
  refine nd_aload_n hC dL_law_2680 rfl rfl ?_
  refine nd_aload_n hC dL_law_2681 rfl rfl ?_
  refine nd_iload hC dL_law_2682 rfl ?_
  refine nd_iconst hC (v := nI 1) (by rfl) dL_law_2684 ?_
  first | with_reducible refine nd_iaddN hC dL_law_2685 ?_ | refine nd_iadd hC dL_law_2685 ?_
  refine nd_sald (j := i + 1) hC hx (by omega) (by omega) dL_law_2686 ?_
  refine nd_callV (mm2 := mX7_restore) (As := [_]) (mc2 := 0) (ms2 := 0) (d2 := d - 1) hC rfl lkL_306 ⟨rfl, lmX7_restore⟩ (W2.2.1) rfl (Nat.le_of_ble_eq_true rfl) (by omega) rfl (by exact Nat.le_of_ble_eq_true rfl) (by omega) (by omega) dL_law_2687 rfl ((mp_restore (h0 := h2) hg (by omega) (xs (i + 1)) (4 * n) S A F B h2 _ (by omega) hM hS W2 (fun A2 F2 B2 h3 M3 e4 W3 => ?_)))
  refine nd_aload_n hC dL_law_2690 rfl rfl ?_
  refine nd_callV (mm2 := mX7_thrown) (As := []) (mc2 := 0) (ms2 := 0) (d2 := d - 1) hC rfl lkL_151 ⟨rfl, lmX7_thrown⟩ (W3.2.1) rfl (Nat.le_of_ble_eq_true rfl) (by omega) rfl (by exact Nat.le_of_ble_eq_true rfl) (by omega) (by omega) dL_law_2691 rfl ((sp_thrown hg W3 ?_))
  rw [e4]
  refine nd_iload hC dL_law_2694 rfl ?_
  refine nd_icmp_eq hC (tgt := 2701) dL_law_2696 (by decide) (fun _ => ?_) (fun hq => absurd rfl hq)
  have FIN : nd_W g mL_law d mc ms K X 2729 (lw_lv i) [] h3 (cs + 2000) (ss + 81000) := k (op_restore (xs (i + 1)) S).2.2 h3 ⟨hok, I2.o101 W3.1.1 (fun a z => W3.1.2 a (by omega)), by rw [W3.1.1]; omega, ⟨ov2, (W3.1.2 122 (by omega)).trans o2⟩, A2, F2, B2, M3, W3.re (fun _ _ _ => rfl)⟩
  refine nd_goto hC (tgt := 2729) dL_law_2701 (by decide) ?_
  refine nd_drop 5 ?_
  exact nd_widen (by omega) (by omega) FIN
theorem lc_47 (hg : nd_OK g) (hd : 1100 ≤ d) (hC : nd_Cx g mL_law X) (hx : sc_X g L xs) (hi : i + 6 ≤ L) (hL : L ≤ 384) (hn : n ≤ 64) (HI : lw_I n S h) (hcs : cs + 2000 ≤ mc) (hss : ss + 81000 ≤ ms) (k : ∀ S2 h2, lw_I (n + 1) S2 h2 → nd_W g mL_law d mc ms K X 2729 (lw_lv i) [] h2 (cs + 2000) (ss + 81000)) : nd_W g mL_law d mc ms K X 2704 (lw_lv i) [] h cs ss := by
  obtain ⟨hS, hI, hl, ⟨ov, hov⟩, A, F, B, hM, hW⟩ := id HI
  obtain ⟨⟨x0, hO⟩, -⟩ : (∃ x, cx_O h (nI (sy_b S).length) (nI (sy_fk S)) (sy_fp S) x) ∧ True := by
    obtain ⟨-, o, nap, ds, gi, dss, hK⟩ := hI
    exact ⟨hK.1, trivial⟩
  unfold cx_O at hO
  have hok : sy_ok (op_count (xs (i + 1)) S).2.2 := by
    unfold op_count
    repeat' split
    all_goals exact hS
  unfold lw_lv
  refine nd_aload_n hC dL_law_2704 rfl rfl ?_
  refine nd_aload_n hC dL_law_2705 rfl rfl ?_
  refine nd_iload hC dL_law_2706 rfl ?_
  refine nd_iconst hC (v := nI 1) (by rfl) dL_law_2708 ?_
  first | with_reducible refine nd_iaddN hC dL_law_2709 ?_ | refine nd_iadd hC dL_law_2709 ?_
  refine nd_sald (j := i + 1) hC hx (by omega) (by omega) dL_law_2710 ?_
  have hz : (op_count (xs (i + 1)) S).1 = 0 := by
    unfold op_count
    repeat' split
    all_goals rfl
  refine nd_callV (mm2 := mX1_count) (As := [_]) (mc2 := 2) (ms2 := 12) (d2 := d - 1) hC rfl lkL_307 ⟨rfl, lmX1_count⟩ (hO) rfl (Nat.le_of_ble_eq_true rfl) (by omega) rfl (by exact Nat.le_of_ble_eq_true rfl) (by omega) (by omega) dL_law_2711 rfl ((cp_count hg (by omega) (xs (i + 1)) S h _ hS hI hl (fun e0 h2 I2 f2 => ?_) (fun e0 => absurd hz e0)))
  have W2 : mo_W h2 A F B h2 := hW.re (fun a z1 z2 => f2.2 a z1 (by omega))
  refine nd_aload_n hC dL_law_2714 rfl rfl ?_
  refine nd_aload_n hC dL_law_2715 rfl rfl ?_
  refine nd_iload hC dL_law_2716 rfl ?_
  refine nd_iconst hC (v := nI 1) (by rfl) dL_law_2718 ?_
  first | with_reducible refine nd_iaddN hC dL_law_2719 ?_ | refine nd_iadd hC dL_law_2719 ?_
  refine nd_sald (j := i + 1) hC hx (by omega) (by omega) dL_law_2720 ?_
  refine nd_callV (mm2 := mX7_count) (As := [_]) (mc2 := 0) (ms2 := 0) (d2 := d - 1) hC rfl lkL_310 ⟨rfl, lmX7_count⟩ (W2.2.1) rfl (Nat.le_of_ble_eq_true rfl) (by omega) rfl (by exact Nat.le_of_ble_eq_true rfl) (by omega) (by omega) dL_law_2721 rfl ((mp_count (h0 := h2) hg (by omega) (xs (i + 1)) (4 * n) S A F B h2 _ (by omega) hM hS W2 (fun A2 F2 B2 h3 M3 e4 W3 => ?_)))
  refine nd_icmp_eq hC (tgt := 2729) dL_law_2724 (by decide) (fun _ => ?_) (fun hq => absurd rfl hq)
  refine nd_widen (by omega) (by omega) (k (op_count (xs (i + 1)) S).2.2 h3 ⟨hok, I2.o101 W3.1.1 (fun a z => W3.1.2 a (by omega)), by rw [W3.1.1]; have := f2.1; omega, ⟨ov, (W3.1.2 122 (by omega)).trans ((f2.2 122 (by omega) (by omega)).trans hov)⟩, A2, F2, B2, M3, W3.re (fun _ _ _ => rfl)⟩)
end LC92

