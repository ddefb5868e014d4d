set_option maxRecDepth 100000
/-! ===== the five places ===== -/
theorem so_p.cyc {lo hi : Nat} {f f2 : Nat → Int64} {i j k : Nat} (hi1 : lo ≤ i) (hi2 : i < hi) (hj1 : lo ≤ j) (hj2 : j < hi) (hk1 : lo ≤ k) (hk2 : k < hi) (e1 : f2 i = f j) (e2 : f2 j = f k) (e3 : f2 k = f i) (e : ∀ q, q ≠ i → q ≠ j → q ≠ k → f2 q = f q) : so_p lo hi f f2 := by
  refine ⟨fun q h => e q (by intro z; subst z; exact h ⟨hi1, hi2⟩) (by intro z; subst z; exact h ⟨hj1, hj2⟩) (by intro z; subst z; exact h ⟨hk1, hk2⟩), fun q h1 h2 => ?_, fun q h1 h2 => ?_⟩
  · by_cases z : q = i
    · subst z; exact ⟨j, hj1, hj2, e1⟩
    · by_cases z2 : q = j
      · subst z2; exact ⟨k, hk1, hk2, e2⟩
      · by_cases z3 : q = k
        · subst z3; exact ⟨i, hi1, hi2, e3⟩
        · exact ⟨q, h1, h2, e q z z2 z3⟩
  · by_cases z : q = i
    · subst z; exact ⟨k, hk1, hk2, e3⟩
    · by_cases z2 : q = j
      · subst z2; exact ⟨i, hi1, hi2, e1⟩
      · by_cases z3 : q = k
        · subst z3; exact ⟨j, hj1, hj2, e2⟩
        · exact ⟨q, h1, h2, e q z z2 z3⟩
theorem i_shl3 (p : Nat) : nI p <<< (nI 3 &&& 31) = nI (8 * p) := by
  rw [show (nI 3 &&& 31) = (3 : Int32) by decide]
  apply Int32.toBitVec_inj.mp
  apply BitVec.eq_of_toNat_eq
  rw [Int32.toBitVec_shiftLeft]
  rw [show ((3 : Int32).toBitVec.smod 32) = (3 : BitVec 32) by decide]
  rw [BitVec.shiftLeft_eq', BitVec.toNat_shiftLeft]
  show (BitVec.ofNat 32 p).toNat <<< 3 % 2 ^ 32 = (BitVec.ofNat 32 (8 * p)).toNat
  rw [BitVec.toNat_ofNat, BitVec.toNat_ofNat, Nat.shiftLeft_eq]
  omega
theorem i_or1 {b : Nat} (h : b < 400) : nI b ||| nI 1 = nI (2 * (b / 2) + 1) := by
  have e : ∀ b, b < 400 → b ||| 1 = 2 * (b / 2) + 1 := by decide +kernel
  rw [nx_or, e b h]
theorem i_and1 (b : Nat) : nI b &&& nI 1 = nI (b % 2) := by rw [nx_and, Nat.and_one_is_mod]
section SO9907
variable {g : nd_G} {d mc ms cs ss : Nat} {K : nd_K} {X : nd_X} {h : nd_H} {A n : Nat}
theorem so_net (hC : nd_Cx g mJ25_sort_2 X) (hlt : A < h.length) (hn : n ≤ 100000) {b lo hi e1 e2 e3 e4 e5 : Nat} {f : Nat → Int64} {l7 l17 l18 l19 l20 l21 l22 l23 l24 : Option Value} (h1 : lo < e1) (h2 : e1 < e2) (h3 : e2 < e3) (h4 : e3 < e4) (h5 : e4 < e5) (h6 : e5 + 1 < hi) (h7 : hi ≤ n) (kk : ∀ f2 l13 l15 l16, so_p lo hi f f2 → nd_W g mJ25_sort_2 d mc ms K X 446 [some .null, some (.ref A), some (.int (nI b)), some (.int (nI lo)), some (.int (nI hi)), some (.int (nI (hi - 1))), some (.int (nI (hi - lo))), l7, some (.int (nI e1)), some (.int (nI e5)), some (.int (nI e3)), some (.int (nI e2)), some (.int (nI e4)), l13, none, l15, l16, l17, l18, l19, l20, l21, l22, l23, l24] [] (h.set A (.inl (1, n, .inr (.inl (f2))))) cs ss) {l13 l15 l16 : Option Value} : nd_W g mJ25_sort_2 d mc ms K X 159 [some .null, some (.ref A), some (.int (nI b)), some (.int (nI lo)), some (.int (nI hi)), some (.int (nI (hi - 1))), some (.int (nI (hi - lo))), l7, some (.int (nI e1)), some (.int (nI e5)), some (.int (nI e3)), some (.int (nI e2)), some (.int (nI e4)), l13, none, l15, l16, l17, l18, l19, l20, l21, l22, l23, l24] [] (h.set A (.inl (1, n, .inr (.inl (f))))) cs ss := by
  generalize ha3 : f e3 = a3
  have J325 : ∀ f2 l15 l16, so_p lo hi f f2 → f2 e3 = a3 → nd_W g mJ25_sort_2 d mc ms K X 325 [some .null, some (.ref A), some (.int (nI b)), some (.int (nI lo)), some (.int (nI hi)), some (.int (nI (hi - 1))), some (.int (nI (hi - lo))), l7, some (.int (nI e1)), some (.int (nI e5)), some (.int (nI e3)), some (.int (nI e2)), some (.int (nI e4)), some (.long a3), none, l15, l16, l17, l18, l19, l20, l21, l22, l23, l24] [] (h.set A (.inl (1, n, .inr (.inl (f2))))) cs ss := by
    intro f2 l15 l16 hp he
    refine nd_lload hC dJ25_sort_2_325 rfl ?_
    refine nd_aload_n hC dJ25_sort_2_327 rfl rfl ?_
    refine nd_iload hC dJ25_sort_2_328 rfl ?_
    refine nd_laloadN hC (List.getElem?_set_self hlt) (by omega) (by omega) dJ25_sort_2_330 ?_
    refine nd_lcmp_ge hC (tgt := 387) dJ25_sort_2_331 dJ25_sort_2_332 (by decide) (fun hq => ?_) (fun hq => ?_)
    · refine nd_lload hC dJ25_sort_2_387 rfl ?_
      refine nd_aload_n hC dJ25_sort_2_389 rfl rfl ?_
      refine nd_iload hC dJ25_sort_2_390 rfl ?_
      refine nd_laloadN hC (List.getElem?_set_self hlt) (by omega) (by omega) dJ25_sort_2_392 ?_
      refine nd_lcmp_le hC (tgt := 446) dJ25_sort_2_393 dJ25_sort_2_394 (by decide) (fun hq2 => ?_) (fun hq2 => ?_)
      · exact kk f2 _ _ _ hp
      refine nd_lload hC dJ25_sort_2_397 rfl ?_
      refine nd_aload_n hC dJ25_sort_2_399 rfl rfl ?_
      refine nd_iload hC dJ25_sort_2_400 rfl ?_
      refine nd_laloadN hC (List.getElem?_set_self hlt) (by omega) (by omega) dJ25_sort_2_402 ?_
      refine nd_lcmp_le hC (tgt := 432) dJ25_sort_2_403 dJ25_sort_2_404 (by decide) (fun hq3 => ?_) (fun hq3 => ?_)
      · refine nd_aload_n hC dJ25_sort_2_432 rfl rfl ?_
        refine nd_iload hC dJ25_sort_2_433 rfl ?_
        refine nd_aload_n hC dJ25_sort_2_435 rfl rfl ?_
        refine nd_iload hC dJ25_sort_2_436 rfl ?_
        refine nd_laloadN hC (List.getElem?_set_self hlt) (by omega) (by omega) dJ25_sort_2_438 ?_
        refine so_ast hC hlt hn (by omega) dJ25_sort_2_439 ?_
        refine nd_aload_n hC dJ25_sort_2_440 rfl rfl ?_
        refine nd_iload hC dJ25_sort_2_441 rfl ?_
        refine nd_lload hC dJ25_sort_2_443 rfl ?_
        refine so_ast hC hlt hn (by omega) dJ25_sort_2_445 ?_
        refine kk _ _ _ _ (hp.trans (so_p.swap (i := e3) (j := e4) (by omega) (by omega) (by omega) (by omega) ?_ ?_ (fun q z1 z2 => ?_)))
        · rw [uL_n (by omega), uL_s]
        · rw [uL_s, he]
        · rw [uL_n z2, uL_n z1]
      · refine nd_aload_n hC dJ25_sort_2_407 rfl rfl ?_
        refine nd_iload hC dJ25_sort_2_408 rfl ?_
        refine nd_aload_n hC dJ25_sort_2_410 rfl rfl ?_
        refine nd_iload hC dJ25_sort_2_411 rfl ?_
        refine nd_laloadN hC (List.getElem?_set_self hlt) (by omega) (by omega) dJ25_sort_2_413 ?_
        refine so_ast hC hlt hn (by omega) dJ25_sort_2_414 ?_
        refine nd_aload_n hC dJ25_sort_2_415 rfl rfl ?_
        refine nd_iload hC dJ25_sort_2_416 rfl ?_
        refine nd_aload_n hC dJ25_sort_2_418 rfl rfl ?_
        refine nd_iload hC dJ25_sort_2_419 rfl ?_
        refine nd_laloadN hC (List.getElem?_set_self hlt) (by omega) (by omega) dJ25_sort_2_421 ?_
        refine so_ast hC hlt hn (by omega) dJ25_sort_2_422 ?_
        refine nd_aload_n hC dJ25_sort_2_423 rfl rfl ?_
        refine nd_iload hC dJ25_sort_2_424 rfl ?_
        refine nd_lload hC dJ25_sort_2_426 rfl ?_
        refine so_ast hC hlt hn (by omega) dJ25_sort_2_428 ?_
        refine nd_goto hC (tgt := 446) dJ25_sort_2_429 (by decide) ?_
        refine kk _ _ _ _ (hp.trans (so_p.cyc (i := e3) (j := e4) (k := e5) (by omega) (by omega) (by omega) (by omega) (by omega) (by omega) ?_ ?_ ?_ (fun q z1 z2 z3 => ?_)))
        · rw [uL_n (by omega), uL_n (by omega), uL_s]
        · rw [uL_n (by omega), uL_s, uL_n (by omega)]
        · rw [uL_s, he]
        · rw [uL_n z3, uL_n z2, uL_n z1]
    · refine nd_lload hC dJ25_sort_2_335 rfl ?_
      refine nd_aload_n hC dJ25_sort_2_337 rfl rfl ?_
      refine nd_iload hC dJ25_sort_2_338 rfl ?_
      refine nd_laloadN hC (List.getElem?_set_self hlt) (by omega) (by omega) dJ25_sort_2_340 ?_
      refine nd_lcmp_ge hC (tgt := 370) dJ25_sort_2_341 dJ25_sort_2_342 (by decide) (fun hq2 => ?_) (fun hq2 => ?_)
      · refine nd_aload_n hC dJ25_sort_2_370 rfl rfl ?_
        refine nd_iload hC dJ25_sort_2_371 rfl ?_
        refine nd_aload_n hC dJ25_sort_2_373 rfl rfl ?_
        refine nd_iload hC dJ25_sort_2_374 rfl ?_
        refine nd_laloadN hC (List.getElem?_set_self hlt) (by omega) (by omega) dJ25_sort_2_376 ?_
        refine so_ast hC hlt hn (by omega) dJ25_sort_2_377 ?_
        refine nd_aload_n hC dJ25_sort_2_378 rfl rfl ?_
        refine nd_iload hC dJ25_sort_2_379 rfl ?_
        refine nd_lload hC dJ25_sort_2_381 rfl ?_
        refine so_ast hC hlt hn (by omega) dJ25_sort_2_383 ?_
        refine nd_goto hC (tgt := 446) dJ25_sort_2_384 (by decide) ?_
        refine kk _ _ _ _ (hp.trans (so_p.swap (i := e3) (j := e2) (by omega) (by omega) (by omega) (by omega) ?_ ?_ (fun q z1 z2 => ?_)))
        · rw [uL_n (by omega), uL_s]
        · rw [uL_s, he]
        · rw [uL_n z2, uL_n z1]
      · refine nd_aload_n hC dJ25_sort_2_345 rfl rfl ?_
        refine nd_iload hC dJ25_sort_2_346 rfl ?_
        refine nd_aload_n hC dJ25_sort_2_348 rfl rfl ?_
        refine nd_iload hC dJ25_sort_2_349 rfl ?_
        refine nd_laloadN hC (List.getElem?_set_self hlt) (by omega) (by omega) dJ25_sort_2_351 ?_
        refine so_ast hC hlt hn (by omega) dJ25_sort_2_352 ?_
        refine nd_aload_n hC dJ25_sort_2_353 rfl rfl ?_
        refine nd_iload hC dJ25_sort_2_354 rfl ?_
        refine nd_aload_n hC dJ25_sort_2_356 rfl rfl ?_
        refine nd_iload hC dJ25_sort_2_357 rfl ?_
        refine nd_laloadN hC (List.getElem?_set_self hlt) (by omega) (by omega) dJ25_sort_2_359 ?_
        refine so_ast hC hlt hn (by omega) dJ25_sort_2_360 ?_
        refine nd_aload_n hC dJ25_sort_2_361 rfl rfl ?_
        refine nd_iload hC dJ25_sort_2_362 rfl ?_
        refine nd_lload hC dJ25_sort_2_364 rfl ?_
        refine so_ast hC hlt hn (by omega) dJ25_sort_2_366 ?_
        refine nd_goto hC (tgt := 446) dJ25_sort_2_367 (by decide) ?_
        refine kk _ _ _ _ (hp.trans (so_p.cyc (i := e3) (j := e2) (k := e1) (by omega) (by omega) (by omega) (by omega) (by omega) (by omega) ?_ ?_ ?_ (fun q z1 z2 z3 => ?_)))
        · rw [uL_n (by omega), uL_n (by omega), uL_s]
        · rw [uL_n (by omega), uL_s, uL_n (by omega)]
        · rw [uL_s, he]
        · rw [uL_n z3, uL_n z2, uL_n z1]
  have J293 : ∀ f2 l15 l16, so_p lo hi f f2 → f2 e3 = a3 → nd_W g mJ25_sort_2 d mc ms K X 293 [some .null, some (.ref A), some (.int (nI b)), some (.int (nI lo)), some (.int (nI hi)), some (.int (nI (hi - 1))), some (.int (nI (hi - lo))), l7, some (.int (nI e1)), some (.int (nI e5)), some (.int (nI e3)), some (.int (nI e2)), some (.int (nI e4)), some (.long a3), none, l15, l16, l17, l18, l19, l20, l21, l22, l23, l24] [] (h.set A (.inl (1, n, .inr (.inl (f2))))) cs ss := by
    intro f2 l15 l16 hp he
    refine nd_aload_n hC dJ25_sort_2_293 rfl rfl ?_
    refine nd_iload hC dJ25_sort_2_294 rfl ?_
    refine nd_laloadN hC (List.getElem?_set_self hlt) (by omega) (by omega) dJ25_sort_2_296 ?_
    refine nd_aload_n hC dJ25_sort_2_297 rfl rfl ?_
    refine nd_iload hC dJ25_sort_2_298 rfl ?_
    refine nd_laloadN hC (List.getElem?_set_self hlt) (by omega) (by omega) dJ25_sort_2_300 ?_
    refine nd_lcmp_ge hC (tgt := 325) dJ25_sort_2_301 dJ25_sort_2_302 (by decide) (fun hq => ?_) (fun hq => ?_)
    · exact J325 f2 _ _ hp he
    · refine nd_aload_n hC dJ25_sort_2_305 rfl rfl ?_
      refine nd_iload hC dJ25_sort_2_306 rfl ?_
      refine nd_laloadN hC (List.getElem?_set_self hlt) (by omega) (by omega) dJ25_sort_2_308 ?_
      refine nd_lstore hC dJ25_sort_2_309 (Nat.le_of_ble_eq_true rfl) ?_
      refine nd_aload_n hC dJ25_sort_2_311 rfl rfl ?_
      refine nd_iload hC dJ25_sort_2_312 rfl ?_
      refine nd_aload_n hC dJ25_sort_2_314 rfl rfl ?_
      refine nd_iload hC dJ25_sort_2_315 rfl ?_
      refine nd_laloadN hC (List.getElem?_set_self hlt) (by omega) (by omega) dJ25_sort_2_317 ?_
      refine so_ast hC hlt hn (by omega) dJ25_sort_2_318 ?_
      refine nd_aload_n hC dJ25_sort_2_319 rfl rfl ?_
      refine nd_iload hC dJ25_sort_2_320 rfl ?_
      refine nd_lload hC dJ25_sort_2_322 rfl ?_
      refine so_ast hC hlt hn (by omega) dJ25_sort_2_324 ?_
      refine J325 _ _ _ (hp.trans (so_p.swap (i := e4) (j := e2) (by omega) (by omega) (by omega) (by omega) ?_ ?_ (fun q z1 z2 => ?_))) ?_
      · rw [uL_n (by omega), uL_s]
      · rw [uL_s]
      · rw [uL_n z2, uL_n z1]
      · rw [uL_n (by omega), uL_n (by omega)]; exact he
  have J261 : ∀ f2 l15 l16, so_p lo hi f f2 → f2 e3 = a3 → nd_W g mJ25_sort_2 d mc ms K X 261 [some .null, some (.ref A), some (.int (nI b)), some (.int (nI lo)), some (.int (nI hi)), some (.int (nI (hi - 1))), some (.int (nI (hi - lo))), l7, some (.int (nI e1)), some (.int (nI e5)), some (.int (nI e3)), some (.int (nI e2)), some (.int (nI e4)), some (.long a3), none, l15, l16, l17, l18, l19, l20, l21, l22, l23, l24] [] (h.set A (.inl (1, n, .inr (.inl (f2))))) cs ss := by
    intro f2 l15 l16 hp he
    refine nd_aload_n hC dJ25_sort_2_261 rfl rfl ?_
    refine nd_iload hC dJ25_sort_2_262 rfl ?_
    refine nd_laloadN hC (List.getElem?_set_self hlt) (by omega) (by omega) dJ25_sort_2_264 ?_
    refine nd_aload_n hC dJ25_sort_2_265 rfl rfl ?_
    refine nd_iload hC dJ25_sort_2_266 rfl ?_
    refine nd_laloadN hC (List.getElem?_set_self hlt) (by omega) (by omega) dJ25_sort_2_268 ?_
    refine nd_lcmp_ge hC (tgt := 293) dJ25_sort_2_269 dJ25_sort_2_270 (by decide) (fun hq => ?_) (fun hq => ?_)
    · exact J293 f2 _ _ hp he
    · refine nd_aload_n hC dJ25_sort_2_273 rfl rfl ?_
      refine nd_iload hC dJ25_sort_2_274 rfl ?_
      refine nd_laloadN hC (List.getElem?_set_self hlt) (by omega) (by omega) dJ25_sort_2_276 ?_
      refine nd_lstore hC dJ25_sort_2_277 (Nat.le_of_ble_eq_true rfl) ?_
      refine nd_aload_n hC dJ25_sort_2_279 rfl rfl ?_
      refine nd_iload hC dJ25_sort_2_280 rfl ?_
      refine nd_aload_n hC dJ25_sort_2_282 rfl rfl ?_
      refine nd_iload hC dJ25_sort_2_283 rfl ?_
      refine nd_laloadN hC (List.getElem?_set_self hlt) (by omega) (by omega) dJ25_sort_2_285 ?_
      refine so_ast hC hlt hn (by omega) dJ25_sort_2_286 ?_
      refine nd_aload_n hC dJ25_sort_2_287 rfl rfl ?_
      refine nd_iload hC dJ25_sort_2_288 rfl ?_
      refine nd_lload hC dJ25_sort_2_290 rfl ?_
      refine so_ast hC hlt hn (by omega) dJ25_sort_2_292 ?_
      refine J293 _ _ _ (hp.trans (so_p.swap (i := e2) (j := e1) (by omega) (by omega) (by omega) (by omega) ?_ ?_ (fun q z1 z2 => ?_))) ?_
      · rw [uL_n (by omega), uL_s]
      · rw [uL_s]
      · rw [uL_n z2, uL_n z1]
      · rw [uL_n (by omega), uL_n (by omega)]; exact he
  have J229 : ∀ f2 l15 l16, so_p lo hi f f2 → f2 e3 = a3 → nd_W g mJ25_sort_2 d mc ms K X 229 [some .null, some (.ref A), some (.int (nI b)), some (.int (nI lo)), some (.int (nI hi)), some (.int (nI (hi - 1))), some (.int (nI (hi - lo))), l7, some (.int (nI e1)), some (.int (nI e5)), some (.int (nI e3)), some (.int (nI e2)), some (.int (nI e4)), some (.long a3), none, l15, l16, l17, l18, l19, l20, l21, l22, l23, l24] [] (h.set A (.inl (1, n, .inr (.inl (f2))))) cs ss := by
    intro f2 l15 l16 hp he
    refine nd_aload_n hC dJ25_sort_2_229 rfl rfl ?_
    refine nd_iload hC dJ25_sort_2_230 rfl ?_
    refine nd_laloadN hC (List.getElem?_set_self hlt) (by omega) (by omega) dJ25_sort_2_232 ?_
    refine nd_aload_n hC dJ25_sort_2_233 rfl rfl ?_
    refine nd_iload hC dJ25_sort_2_234 rfl ?_
    refine nd_laloadN hC (List.getElem?_set_self hlt) (by omega) (by omega) dJ25_sort_2_236 ?_
    refine nd_lcmp_ge hC (tgt := 261) dJ25_sort_2_237 dJ25_sort_2_238 (by decide) (fun hq => ?_) (fun hq => ?_)
    · exact J261 f2 _ _ hp he
    · refine nd_aload_n hC dJ25_sort_2_241 rfl rfl ?_
      refine nd_iload hC dJ25_sort_2_242 rfl ?_
      refine nd_laloadN hC (List.getElem?_set_self hlt) (by omega) (by omega) dJ25_sort_2_244 ?_
      refine nd_lstore hC dJ25_sort_2_245 (Nat.le_of_ble_eq_true rfl) ?_
      refine nd_aload_n hC dJ25_sort_2_247 rfl rfl ?_
      refine nd_iload hC dJ25_sort_2_248 rfl ?_
      refine nd_aload_n hC dJ25_sort_2_250 rfl rfl ?_
      refine nd_iload hC dJ25_sort_2_251 rfl ?_
      refine nd_laloadN hC (List.getElem?_set_self hlt) (by omega) (by omega) dJ25_sort_2_253 ?_
      refine so_ast hC hlt hn (by omega) dJ25_sort_2_254 ?_
      refine nd_aload_n hC dJ25_sort_2_255 rfl rfl ?_
      refine nd_iload hC dJ25_sort_2_256 rfl ?_
      refine nd_lload hC dJ25_sort_2_258 rfl ?_
      refine so_ast hC hlt hn (by omega) dJ25_sort_2_260 ?_
      refine J261 _ _ _ (hp.trans (so_p.swap (i := e5) (j := e4) (by omega) (by omega) (by omega) (by omega) ?_ ?_ (fun q z1 z2 => ?_))) ?_
      · rw [uL_n (by omega), uL_s]
      · rw [uL_s]
      · rw [uL_n z2, uL_n z1]
      · rw [uL_n (by omega), uL_n (by omega)]; exact he
  have J197 : ∀ f2 l15 l16, so_p lo hi f f2 → f2 e3 = a3 → nd_W g mJ25_sort_2 d mc ms K X 197 [some .null, some (.ref A), some (.int (nI b)), some (.int (nI lo)), some (.int (nI hi)), some (.int (nI (hi - 1))), some (.int (nI (hi - lo))), l7, some (.int (nI e1)), some (.int (nI e5)), some (.int (nI e3)), some (.int (nI e2)), some (.int (nI e4)), some (.long a3), none, l15, l16, l17, l18, l19, l20, l21, l22, l23, l24] [] (h.set A (.inl (1, n, .inr (.inl (f2))))) cs ss := by
    intro f2 l15 l16 hp he
    refine nd_aload_n hC dJ25_sort_2_197 rfl rfl ?_
    refine nd_iload hC dJ25_sort_2_198 rfl ?_
    refine nd_laloadN hC (List.getElem?_set_self hlt) (by omega) (by omega) dJ25_sort_2_200 ?_
    refine nd_aload_n hC dJ25_sort_2_201 rfl rfl ?_
    refine nd_iload hC dJ25_sort_2_202 rfl ?_
    refine nd_laloadN hC (List.getElem?_set_self hlt) (by omega) (by omega) dJ25_sort_2_204 ?_
    refine nd_lcmp_ge hC (tgt := 229) dJ25_sort_2_205 dJ25_sort_2_206 (by decide) (fun hq => ?_) (fun hq => ?_)
    · exact J229 f2 _ _ hp he
    · refine nd_aload_n hC dJ25_sort_2_209 rfl rfl ?_
      refine nd_iload hC dJ25_sort_2_210 rfl ?_
      refine nd_laloadN hC (List.getElem?_set_self hlt) (by omega) (by omega) dJ25_sort_2_212 ?_
      refine nd_lstore hC dJ25_sort_2_213 (Nat.le_of_ble_eq_true rfl) ?_
      refine nd_aload_n hC dJ25_sort_2_215 rfl rfl ?_
      refine nd_iload hC dJ25_sort_2_216 rfl ?_
      refine nd_aload_n hC dJ25_sort_2_218 rfl rfl ?_
      refine nd_iload hC dJ25_sort_2_219 rfl ?_
      refine nd_laloadN hC (List.getElem?_set_self hlt) (by omega) (by omega) dJ25_sort_2_221 ?_
      refine so_ast hC hlt hn (by omega) dJ25_sort_2_222 ?_
      refine nd_aload_n hC dJ25_sort_2_223 rfl rfl ?_
      refine nd_iload hC dJ25_sort_2_224 rfl ?_
      refine nd_lload hC dJ25_sort_2_226 rfl ?_
      refine so_ast hC hlt hn (by omega) dJ25_sort_2_228 ?_
      refine J229 _ _ _ (hp.trans (so_p.swap (i := e4) (j := e1) (by omega) (by omega) (by omega) (by omega) ?_ ?_ (fun q z1 z2 => ?_))) ?_
      · rw [uL_n (by omega), uL_s]
      · rw [uL_s]
      · rw [uL_n z2, uL_n z1]
      · rw [uL_n (by omega), uL_n (by omega)]; exact he
  have J165 : ∀ f2 l15 l16, so_p lo hi f f2 → f2 e3 = a3 → nd_W g mJ25_sort_2 d mc ms K X 165 [some .null, some (.ref A), some (.int (nI b)), some (.int (nI lo)), some (.int (nI hi)), some (.int (nI (hi - 1))), some (.int (nI (hi - lo))), l7, some (.int (nI e1)), some (.int (nI e5)), some (.int (nI e3)), some (.int (nI e2)), some (.int (nI e4)), some (.long a3), none, l15, l16, l17, l18, l19, l20, l21, l22, l23, l24] [] (h.set A (.inl (1, n, .inr (.inl (f2))))) cs ss := by
    intro f2 l15 l16 hp he
    refine nd_aload_n hC dJ25_sort_2_165 rfl rfl ?_
    refine nd_iload hC dJ25_sort_2_166 rfl ?_
    refine nd_laloadN hC (List.getElem?_set_self hlt) (by omega) (by omega) dJ25_sort_2_168 ?_
    refine nd_aload_n hC dJ25_sort_2_169 rfl rfl ?_
    refine nd_iload hC dJ25_sort_2_170 rfl ?_
    refine nd_laloadN hC (List.getElem?_set_self hlt) (by omega) (by omega) dJ25_sort_2_172 ?_
    refine nd_lcmp_ge hC (tgt := 197) dJ25_sort_2_173 dJ25_sort_2_174 (by decide) (fun hq => ?_) (fun hq => ?_)
    · exact J197 f2 _ _ hp he
    · refine nd_aload_n hC dJ25_sort_2_177 rfl rfl ?_
      refine nd_iload hC dJ25_sort_2_178 rfl ?_
      refine nd_laloadN hC (List.getElem?_set_self hlt) (by omega) (by omega) dJ25_sort_2_180 ?_
      refine nd_lstore hC dJ25_sort_2_181 (Nat.le_of_ble_eq_true rfl) ?_
      refine nd_aload_n hC dJ25_sort_2_183 rfl rfl ?_
      refine nd_iload hC dJ25_sort_2_184 rfl ?_
      refine nd_aload_n hC dJ25_sort_2_186 rfl rfl ?_
      refine nd_iload hC dJ25_sort_2_187 rfl ?_
      refine nd_laloadN hC (List.getElem?_set_self hlt) (by omega) (by omega) dJ25_sort_2_189 ?_
      refine so_ast hC hlt hn (by omega) dJ25_sort_2_190 ?_
      refine nd_aload_n hC dJ25_sort_2_191 rfl rfl ?_
      refine nd_iload hC dJ25_sort_2_192 rfl ?_
      refine nd_lload hC dJ25_sort_2_194 rfl ?_
      refine so_ast hC hlt hn (by omega) dJ25_sort_2_196 ?_
      refine J197 _ _ _ (hp.trans (so_p.swap (i := e5) (j := e2) (by omega) (by omega) (by omega) (by omega) ?_ ?_ (fun q z1 z2 => ?_))) ?_
      · rw [uL_n (by omega), uL_s]
      · rw [uL_s]
      · rw [uL_n z2, uL_n z1]
      · rw [uL_n (by omega), uL_n (by omega)]; exact he
  refine nd_aload_n hC dJ25_sort_2_159 rfl rfl ?_
  refine nd_iload hC dJ25_sort_2_160 rfl ?_
  refine nd_laloadN hC (List.getElem?_set_self hlt) (by omega) (by omega) dJ25_sort_2_162 ?_
  rw [ha3]
  refine nd_lstore hC dJ25_sort_2_163 (Nat.le_of_ble_eq_true rfl) ?_
  exact J165 f _ _ so_p.rfl ha3
end SO9907

