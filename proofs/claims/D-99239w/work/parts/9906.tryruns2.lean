set_option maxRecDepth 100000
theorem so_mr_in {hx : nd_H} {A n sz : Nat} {f fb : Nat → Int64} (hA : A < hx.length) : hx.set A (.inl (1, n, .inr (.inl f))) ++ [.inl (1, sz, .inr (.inl fb))] = so_hh (hx ++ [.inl (1, sz, .inr (.inl fb))]) A n f hx.length sz fb := by
  unfold so_hh
  rw [List.set_append_left _ _ hA, List.set_append_right _ _ (by rw [List.length_set]; exact Nat.le_refl _), List.length_set, Nat.sub_self]
  rfl
theorem so_e.app2 {h hx : nd_H} {c s ty ty2 N : Nat} {a b : nd_A} (e : so_e h hx c s) : so_e h ((hx ++ [(.inl (ty, N, a) : nd_C)]).set hx.length (.inl (ty2, N, b))) (c + 1) (s + N) := e.app.set (ty := ty) (x := a) e.le (by simp)
theorem i_inc1 (x : Int32) : x - nI 1 + Int32.ofInt 1 = x := Int32.sub_add_cancel x (nI 1)
theorem i_run {sz : Nat} (h : sz ≤ 28000) : (nI sz >>> (nI 10 &&& 31) ||| nI 127) &&& nI 1023 = nI 127 := by
  rw [i_shr (by omega) (by decide), nx_or, nx_and]
  have e : ∀ a, a < 28 → (a ||| 127) &&& 1023 = 127 := by decide
  rw [e _ (by omega)]
section SO9906
variable {g : nd_G} {d ms : Nat} {K : nd_K} {X : nd_X} {h : nd_H} {A n : Nat}
theorem so_try (hg : nd_OK g) {lo sz : Nat} {f : Nat → Int64} (hlt : A < h.length) (hn0 : n ≤ 28000) (h1 : lo + sz ≤ n) (hsz : 1 ≤ sz) (hms1 : 127 + sz ≤ ms) (hms2 : 16128 ≤ sz → 381 + sz ≤ ms) (hd : 300 ≤ d) (hk0 : ∀ hx f2 c s, so_e h hx c s → c ≤ 2 → (s ≤ 127 ∨ (s ≤ 381 ∧ 16128 ≤ sz)) → so_p lo (lo + sz) f f2 → K (.inl (some (.int (nI 0)))) (hx.set A (.inl (1, n, .inr (.inl f2))))) (hk1 : ∀ hx f2, so_e h hx 3 ms → so_p lo (lo + sz) f f2 → so_s lo (lo + sz) f2 → K (.inl (some (.int (nI 1)))) (hx.set A (.inl (1, n, .inr (.inl f2))))) : nd_M g mJ25_tryMergeRuns d 3 ms [.null, .ref A, .int (nI lo), .int (nI sz)] (h.set A (.inl (1, n, .inr (.inl f)))) K := by
  have hn : n ≤ 100000 := by omega
  refine nd_enter hg (by decide) rfl (Nat.le_of_ble_eq_true rfl) (fun X hC => ?_)
  have E : ∀ f2 hx v cnt last k cs ss l9 l10 l11, so_p lo (lo + sz) f f2 → so_st h lo sz f2 hx v cnt last cs ss → ((v = .null ∧ so_s lo (lo + sz) f2) ∨ last = lo + sz) → nd_W g mJ25_tryMergeRuns d 3 ms K X 329 [some .null, some (.ref A), some (.int (nI lo)), some (.int (nI sz)), some v, some (.int (nI (lo + sz))), some (.int (nI cnt)), some (.int (nI last)), some (.int (nI k)), l9, l10, l11, none] [] (hx.set A (.inl (1, n, .inr (.inl f2)))) cs ss := by
    intro f2 hx v cnt last k cs ss l9 l10 l11 hp hst hor
    obtain ⟨hext, hc1, hc2, hcs, hss, hll, hrf⟩ := hst.le
    have hlx : A < hx.length := Nat.lt_of_lt_of_le hlt hext.le
    have hss2 : ss + sz ≤ ms := by
      rcases hss with z | ⟨z, z2⟩
      · omega
      · have := hms2 z2
        omega
    refine nd_iload hC dJ25_tryMergeRuns_329 rfl ?_
    refine nd_iconst hC (v := nI 1) (by rfl) dJ25_tryMergeRuns_331 ?_
    first | with_reducible refine nd_icmp_leN hC (tgt := 393) (by omega) (by omega) dJ25_tryMergeRuns_332 (by decide) (fun hq2 => ?_) (fun hq2 => ?_) | refine nd_icmp_le hC (tgt := 393) dJ25_tryMergeRuns_332 (by decide) (fun hq2 => ?_) (fun hq2 => ?_)
    · have RR : so_s lo (lo + sz) f2 := by
        rcases hst with ⟨a1, a2, a3, a4, a5, a6⟩ | ⟨R, rl, rf, r, a1, a2, a3, a4, a5, a6, a7, a8, a9, a10, a11, a12⟩
        · rcases hor with z | z
          · exact z.2
          · omega
        · have e : cnt = 1 := by omega
          subst e
          have M := a12 0 (by omega)
          rw [Nat.zero_add, a10, a11] at M
          rcases hor with z | z
          · rw [a1] at z; cases z.1
          · rw [← z]; exact M
      have R2 := hk1 hx f2 (hext.mono (by omega) (by omega)) hp RR
      refine nd_iconst hC (v := nI 1) (by rfl) dJ25_tryMergeRuns_393 ?_
      refine nd_ireturn hC rfl (by first | rfl | exact nd_b_nar _) (by omega) (by omega) dJ25_tryMergeRuns_394 (R2)
    · rcases hst with ⟨a1, a2, a3, a4, a5, a6⟩ | ⟨R, rl, rf, r, a1, a2, a3, a4, a5, a6, a7, a8, a9, a10, a11, a12⟩
      · omega
      · subst a1
        have hlast : last = lo + sz := by
          rcases hor with z | z
          · cases z.1
          · exact z
        refine nd_iload_n hC dJ25_tryMergeRuns_335 rfl ?_
        refine nd_istore hC dJ25_tryMergeRuns_336 (Nat.le_of_ble_eq_true rfl) ?_
        refine nd_aload_n hC dJ25_tryMergeRuns_338 rfl rfl ?_
        refine nd_isnullN hC (tgt := 355) dJ25_tryMergeRuns_339 (by decide) ?_
        refine nd_iload_n hC dJ25_tryMergeRuns_355 rfl ?_
        refine nd_newarray hC (atype := .long) (ty := 1) .long (.inr (.inl (fun _ => 0))) q427 rfl rfl (fun _ _ => rfl) (N := sz) rfl (nI_toInt (by omega)) (by show sz * 8 ≤ 536870912; omega) (by omega) (by omega) dJ25_tryMergeRuns_356 ?_
        rw [so_mr_in hlx, List.length_set]
        refine nd_astore hC dJ25_tryMergeRuns_358 (Nat.le_of_ble_eq_true rfl) rfl ?_
        refine nd_goto hC (tgt := 369) dJ25_tryMergeRuns_360 (by decide) ?_
        refine nd_aload_n hC dJ25_tryMergeRuns_369 rfl rfl ?_
        refine nd_aload hC dJ25_tryMergeRuns_370 rfl rfl ?_
        refine nd_iload hC dJ25_tryMergeRuns_372 rfl ?_
        refine nd_iconst hC (v := nI 1) (by rfl) dJ25_tryMergeRuns_374 ?_
        refine nd_aload_n hC dJ25_tryMergeRuns_375 rfl rfl ?_
        refine nd_isnullN hC (tgt := 383) dJ25_tryMergeRuns_376 (by decide) ?_
        refine nd_iconst hC (v := nI 0) (by rfl) dJ25_tryMergeRuns_383 ?_
        refine nd_aload hC dJ25_tryMergeRuns_384 rfl rfl ?_
        refine nd_iconst hC (v := nI 0) (by rfl) dJ25_tryMergeRuns_386 ?_
        refine nd_iload hC dJ25_tryMergeRuns_387 rfl ?_
        have hRlt := nd_get_lt a4
        refine nd_callS (mm2 := mJ25_mergeRuns) (As := [_, _, _, _, _, _, _, _]) (mc2 := 0) (ms2 := 0) (d2 := d - 1) hC rfl lkJ25_118 lmJ25_mergeRuns (Nat.le_of_ble_eq_true rfl) (by omega) rfl (by exact Nat.le_of_ble_eq_true rfl) (by omega) (by omega) dJ25_tryMergeRuns_389 rfl ((so_mruns (h := hx ++ [.inl (1, sz, .inr (.inl (fun _ => 0)))]) hg (A := A) (n := n) (B := hx.length) (m := sz) (R := R) (rl := rl) (cnt := cnt) (off := lo) (rf := rf) (r := r) (by rw [List.length_append]; omega) (by rw [List.length_append]; show hx.length < hx.length + 1; omega) (by omega) ((List.getElem?_append_left hRlt).trans a4) (by omega) (by omega) a5 (by omega) a8 a9 (by omega) (by omega) (by omega) hn (by omega) cnt (d - 1) 0 cnt (nI 1) f2 (fun _ => 0) _ (by omega) (by omega) (by omega) (Nat.le_refl _) (Or.inl rfl) (fun i b1 b2 => a12 i b2) (fun Y f3 fb3 H1 Z1 Z2 => ?_)))
        rw [a10, a11, hlast] at H1
        have eY := Z1 rfl
        obtain ⟨b1, b2, b3⟩ := H1
        rcases b3 with ⟨c1, c2, c3⟩ | ⟨c1, c2, c3⟩
        · have R2 := hk1 ((hx ++ [(.inl (1, sz, .inr (.inl (fun _ => 0))) : nd_C)]).set hx.length (.inl (1, sz, .inr (.inl fb3)))) f3 (hext.app2.mono (by omega) (by omega)) (hp.trans ⟨b1, c2.1, c2.2⟩) c3
          rw [so_hh.comm (by omega)]
          unfold so_hh
          refine nd_pop hC (by rfl) dJ25_tryMergeRuns_392 ?_
          refine nd_iconst hC (v := nI 1) (by rfl) dJ25_tryMergeRuns_393 ?_
          refine nd_ireturn hC rfl (by first | rfl | exact nd_b_nar _) (by omega) (by omega) dJ25_tryMergeRuns_394 (R2)
        · omega
  have J316 : ∀ (k : Nat) (f3 : Nat → Int64) (hx : nd_H) (R rl : Nat) (rf : Nat → Int32) (r : Nat → Nat) (cnt l7 cs ss : Nat) l9 l10 l11, so_p lo (lo + sz) f f3 → k ≤ lo + sz → so_e h hx cs ss → h.length ≤ R → hx[R]? = some (.inl (0, rl, .inl rf)) → cnt < rl → ((rl = 127 ∧ cs = 1 ∧ ss = 127) ∨ (rl = 254 ∧ cs = 2 ∧ ss = 381 ∧ 16128 ≤ sz)) → 1 ≤ cnt → (∀ i, i < cnt → rf i = nI (r i)) → (∀ i, i + 1 < cnt → r i < r (i + 1)) → r 0 = lo → r (cnt - 1) < k → (∀ i, i + 1 < cnt → so_s (r i) (r (i + 1)) f3) → so_s (r (cnt - 1)) k f3 → (∀ hx2 R2, so_st h lo sz f3 hx2 (.ref R2) cnt k cs ss → nd_W g mJ25_tryMergeRuns d 3 ms K X 19 [some .null, some (.ref A), some (.int (nI lo)), some (.int (nI sz)), some (.ref R2), some (.int (nI (lo + sz))), some (.int (nI cnt)), some (.int (nI k)), some (.int (nI k)), l9, l10, l11, none] [] (hx2.set A (.inl (1, n, .inr (.inl f3)))) cs ss) → nd_W g mJ25_tryMergeRuns d 3 ms K X 316 [some .null, some (.ref A), some (.int (nI lo)), some (.int (nI sz)), some (.ref R), some (.int (nI (lo + sz))), some (.int (nI cnt)), some (.int (nI l7)), some (.int (nI k)), l9, l10, l11, none] [] (hx.set A (.inl (1, n, .inr (.inl f3)))) cs ss := by
    intro k f3 hx R rl rf r cnt l7 cs ss l9 l10 l11 hp hk2 a2 a3 a4 a5 a6 a7 a8 a9 a10 a11 a12 a13 kk
    have hRA : R ≠ A := by omega
    have hRlt := nd_get_lt a4
    refine nd_aload hC dJ25_tryMergeRuns_316 rfl rfl ?_
    refine nd_iload hC dJ25_tryMergeRuns_318 rfl ?_
    refine nd_iload hC dJ25_tryMergeRuns_320 rfl ?_
    refine nd_dup hC (by rfl) dJ25_tryMergeRuns_322 ?_
    refine nd_istore hC dJ25_tryMergeRuns_323 (Nat.le_of_ble_eq_true rfl) ?_
    refine nd_iastoreN hC (b := R) (n := rl) (f := rf) ((List.getElem?_set_ne (Ne.symm hRA)).trans a4) a5 (by omega) dJ25_tryMergeRuns_325 ?_
    rw [List.set_comm _ _ (Ne.symm hRA)]
    refine nd_goto hC (tgt := 19) dJ25_tryMergeRuns_326 (by decide) ?_
    refine kk _ R (Or.inr ⟨R, rl, upd rf cnt (nI k), fun i => if i = cnt then k else r i, rfl, a2.set a3 a4, a3, List.getElem?_set_self hRlt, a5, a6, a7, fun i hi => ?_, fun i hi => ?_, ?_, ?_, fun i hi => ?_⟩)
    · show upd rf cnt (nI k) i = nI (if i = cnt then k else r i)
      by_cases e : i = cnt
      · subst e; rw [if_pos rfl]; exact upd_s
      · rw [if_neg e, upd_n e]; exact a8 i (by omega)
    · show (if i = cnt then k else r i) < (if i + 1 = cnt then k else r (i + 1))
      rw [if_neg (by omega)]
      by_cases e : i + 1 = cnt
      · rw [if_pos e, show i = cnt - 1 by omega]; exact a11
      · rw [if_neg e]; exact a9 i (by omega)
    · show (if 0 = cnt then k else r 0) = lo
      rw [if_neg (by omega)]; exact a10
    · show (if cnt = cnt then k else r cnt) = k
      rw [if_pos rfl]
    · show so_s (if i = cnt then k else r i) (if i + 1 = cnt then k else r (i + 1)) f3
      rw [if_neg (by omega)]
      by_cases e : i + 1 = cnt
      · rw [if_pos e, show i = cnt - 1 by omega]; exact a13
      · rw [if_neg e]; exact a12 i (by omega)
  have H19 : ∀ t k f2 hx v cnt last cs ss l9 l10 l11, lo + sz - k ≤ t → lo < k → k ≤ lo + sz → last ≤ k → so_p lo (lo + sz) f f2 → so_c last k f2 → so_st h lo sz f2 hx v cnt last cs ss → (k = lo + sz → v = .null ∨ last = k) → nd_W g mJ25_tryMergeRuns d 3 ms K X 19 [some .null, some (.ref A), some (.int (nI lo)), some (.int (nI sz)), some v, some (.int (nI (lo + sz))), some (.int (nI cnt)), some (.int (nI last)), some (.int (nI k)), l9, l10, l11, none] [] (hx.set A (.inl (1, n, .inr (.inl f2)))) cs ss := by
    intro t
    have EE : ∀ k f2 hx v cnt last cs ss l9 l10 l11, k = lo + sz → last ≤ k → so_p lo (lo + sz) f f2 → so_c last k f2 → so_st h lo sz f2 hx v cnt last cs ss → (k = lo + sz → v = .null ∨ last = k) → nd_W g mJ25_tryMergeRuns d 3 ms K X 329 [some .null, some (.ref A), some (.int (nI lo)), some (.int (nI sz)), some v, some (.int (nI (lo + sz))), some (.int (nI cnt)), some (.int (nI last)), some (.int (nI k)), l9, l10, l11, none] [] (hx.set A (.inl (1, n, .inr (.inl f2)))) cs ss := by
      intro k f2 hx v cnt last cs ss l9 l10 l11 hk hlk hp hc hst hv
      refine E f2 hx v cnt last k cs ss l9 l10 l11 hp hst ?_
      rcases hv hk with z | z
      · refine Or.inl ⟨z, fun i j b1 b2 b3 => ?_⟩
        rcases hst with ⟨a1, a2, a3, a4, a5, a6⟩ | ⟨R, rl, rf, r, a1, a2, a3, a4, a5, a6, a7, a8, a9, a10, a11, a12⟩
        · rw [hc i j (by omega) (by omega) (by omega) (by omega)]
          exact Int.le_refl _
        · rw [a1] at z; cases z
      · exact Or.inr (by omega)
    induction t with
    | zero =>
      intro k f2 hx v cnt last cs ss l9 l10 l11 ht hlk0 hk2 hlk hp hc hst hv
      obtain ⟨hext, hc1, hc2, hcs, hss, hll, hrf⟩ := id hst.le
      refine nd_iload hC dJ25_tryMergeRuns_19 rfl ?_
      refine nd_iload hC dJ25_tryMergeRuns_21 rfl ?_
      first | with_reducible refine nd_icmp_geN hC (tgt := 329) (by omega) (by omega) dJ25_tryMergeRuns_23 (by decide) (fun hq => ?_) (fun hq => ?_) | refine nd_icmp_ge hC (tgt := 329) dJ25_tryMergeRuns_23 (by decide) (fun hq => ?_) (fun hq => ?_)
      · exact EE k f2 hx v cnt last cs ss l9 l10 l11 (by omega) hlk hp hc hst hv
      · omega
    | succ t ih =>
      intro k f2 hx v cnt last cs ss l9 l10 l11 ht hlk0 hk2 hlk hp hc hst hv
      obtain ⟨hext, hc1, hc2, hcs, hss, hll, hrf⟩ := id hst.le
      have hlx : A < hx.length := Nat.lt_of_lt_of_le hlt hext.le
      have hss3 : ss ≤ ms := by
        rcases hss with z | ⟨z, z2⟩
        · omega
        · have := hms2 z2
          omega
      refine nd_iload hC dJ25_tryMergeRuns_19 rfl ?_
      refine nd_iload hC dJ25_tryMergeRuns_21 rfl ?_
      first | with_reducible refine nd_icmp_geN hC (tgt := 329) (by omega) (by omega) dJ25_tryMergeRuns_23 (by decide) (fun hq => ?_) (fun hq => ?_) | refine nd_icmp_ge hC (tgt := 329) dJ25_tryMergeRuns_23 (by decide) (fun hq => ?_) (fun hq => ?_)
      · exact EE k f2 hx v cnt last cs ss l9 l10 l11 (by omega) hlk hp hc hst hv
      have J208 : ∀ k2 f3 l9 l10 l11, k < k2 → k2 ≤ lo + sz → so_p lo (lo + sz) f f3 → so_s last k2 f3 → so_st h lo sz f3 hx v cnt last cs ss → nd_W g mJ25_tryMergeRuns d 3 ms K X 208 [some .null, some (.ref A), some (.int (nI lo)), some (.int (nI sz)), some v, some (.int (nI (lo + sz))), some (.int (nI cnt)), some (.int (nI last)), some (.int (nI k2)), l9, l10, l11, none] [] (hx.set A (.inl (1, n, .inr (.inl f3)))) cs ss := by
        intro k2 f3 l9 l10 l11 hkk hk3 hp3 hs3 hst3
        have go19 : ∀ hx2 R2 cnt2 cs2 ss2, so_st h lo sz f3 hx2 (.ref R2) cnt2 k2 cs2 ss2 → nd_W g mJ25_tryMergeRuns d 3 ms K X 19 [some .null, some (.ref A), some (.int (nI lo)), some (.int (nI sz)), some (.ref R2), some (.int (nI (lo + sz))), some (.int (nI cnt2)), some (.int (nI k2)), some (.int (nI k2)), l9, l10, l11, none] [] (hx2.set A (.inl (1, n, .inr (.inl f3)))) cs2 ss2 := fun hx2 R2 cnt2 cs2 ss2 hst2 => ih k2 f3 hx2 (.ref R2) cnt2 k2 cs2 ss2 l9 l10 l11 (by omega) (by omega) hk3 (Nat.le_refl _) hp3 (fun i j b1 b2 b3 b4 => by omega) hst2 (fun _ => Or.inr rfl)
        rcases hst3 with ⟨a1, a2, a3, a4, a5, a6⟩ | ⟨R, rl, rf, r, a1, a2, a3, a4, a5, a6, a7, a8, a9, a10, a11, a12⟩
        · subst a1; subst a2; subst a3; subst a4; subst a5; subst a6
          refine nd_aload hC dJ25_tryMergeRuns_208 rfl rfl ?_
          refine nd_nonnullN hC dJ25_tryMergeRuns_210 ?_
          refine nd_iload hC dJ25_tryMergeRuns_213 rfl ?_
          refine nd_iload hC dJ25_tryMergeRuns_215 rfl ?_
          first | with_reducible refine nd_icmp_neN hC (tgt := 222) (by omega) (by omega) dJ25_tryMergeRuns_217 (by decide) (fun hq3 => ?_) (fun hq3 => ?_) | refine nd_icmp_ne hC (tgt := 222) dJ25_tryMergeRuns_217 (by decide) (fun hq3 => ?_) (fun hq3 => ?_)
          · refine nd_iload hC dJ25_tryMergeRuns_222 rfl ?_
            refine nd_iload_n hC dJ25_tryMergeRuns_224 rfl ?_
            first | with_reducible refine nd_isubN hC (by omega) dJ25_tryMergeRuns_225 ?_ | refine nd_isub hC dJ25_tryMergeRuns_225 ?_
            refine nd_bipush hC (v := nI 16) (by rfl) dJ25_tryMergeRuns_226 ?_
            first | with_reducible refine nd_icmp_geN hC (tgt := 233) (by omega) (by omega) dJ25_tryMergeRuns_228 (by decide) (fun hq4 => ?_) (fun hq4 => ?_) | refine nd_icmp_ge hC (tgt := 233) dJ25_tryMergeRuns_228 (by decide) (fun hq4 => ?_) (fun hq4 => ?_)
            · refine nd_iload_n hC dJ25_tryMergeRuns_233 rfl ?_
              refine nd_bipush hC (v := nI 10) (by rfl) dJ25_tryMergeRuns_234 ?_
              refine nd_ishr hC dJ25_tryMergeRuns_236 ?_
              refine nd_bipush hC (v := nI 127) (by rfl) dJ25_tryMergeRuns_237 ?_
              refine nd_ior hC dJ25_tryMergeRuns_239 ?_
              refine nd_sipush hC (v := nI 1023) (by rfl) dJ25_tryMergeRuns_240 ?_
              refine nd_iand hC dJ25_tryMergeRuns_243 ?_
              rw [i_run (by omega)]
              refine nd_newarray hC (atype := .int) (ty := 0) .int (.inl (fun _ => 0)) q322 rfl rfl (fun _ _ => rfl) (N := 127) rfl (nI_toInt (by omega)) (by decide) (by omega) (by omega) dJ25_tryMergeRuns_244 ?_
              rw [List.length_set, ← List.set_append_left _ _ hlx]
              refine nd_astore hC dJ25_tryMergeRuns_246 (Nat.le_of_ble_eq_true rfl) rfl ?_
              refine nd_aload hC dJ25_tryMergeRuns_248 rfl rfl ?_
              refine nd_iconst hC (v := nI 0) (by rfl) dJ25_tryMergeRuns_250 ?_
              refine nd_iload_n hC dJ25_tryMergeRuns_251 rfl ?_
              refine nd_iastoreN hC (b := hx.length) (n := 127) (f := fun _ => 0) ((List.getElem?_set_ne (by omega)).trans (by simp)) (by omega) (by omega) dJ25_tryMergeRuns_252 ?_
              rw [List.set_comm _ _ (by omega)]
              refine nd_goto hC (tgt := 316) dJ25_tryMergeRuns_253 (by decide) ?_
              refine J316 k2 f3 _ hx.length 127 (upd (fun _ => 0) 0 (nI last)) (fun _ => last) 1 last _ _ _ _ _ hp3 hk3 (so_e.rfl.app2.mono (by omega) (by omega)) (Nat.le_refl _) (List.getElem?_set_self (by simp)) (by omega) (Or.inl ⟨rfl, rfl, rfl⟩) (by omega) (fun i hi => by rw [show i = 0 by omega]; exact upd_s) (fun i hi => by omega) rfl (by omega) (fun i hi => by omega) hs3 (fun hx2 R2 hst2 => go19 hx2 R2 1 _ _ hst2)
            · have R2 := hk0 hx f3 0 0 hext hcs hss hp3
              refine nd_iconst hC (v := nI 0) (by rfl) dJ25_tryMergeRuns_231 ?_
              refine nd_ireturn hC rfl (by first | rfl | exact nd_b_nar _) (by omega) (by omega) dJ25_tryMergeRuns_232 (R2)
          · have R2 := hk1 hx f3 (hext.mono (by omega) (by omega)) hp3 (by rw [← hq3]; exact hs3)
            refine nd_iconst hC (v := nI 1) (by rfl) dJ25_tryMergeRuns_220 ?_
            refine nd_ireturn hC rfl (by first | rfl | exact nd_b_nar _) (by omega) (by omega) dJ25_tryMergeRuns_221 (R2)
        · subst a1
          have hrm := r_mono a9 cnt 0 (by omega)
          rw [Nat.zero_add, a10, a11] at hrm
          refine nd_aload hC dJ25_tryMergeRuns_208 rfl rfl ?_
          refine nd_nonnull hC (tgt := 256) dJ25_tryMergeRuns_210 (by decide) ?_
          have a9' : ∀ i, i + 1 < cnt → r i < r (i + 1) := fun i hi => a9 i (by omega)
          have a12' : ∀ i, i + 1 < cnt → so_s (r i) (r (i + 1)) f3 := fun i hi => a12 i (by omega)
          have e1 : cnt - 1 + 1 = cnt := by omega
          have hl1 := a9 (cnt - 1) (by omega)
          have hl2 := a12 (cnt - 1) (by omega)
          rw [e1, a11] at hl1 hl2
          refine nd_aload_n hC dJ25_tryMergeRuns_256 rfl rfl ?_
          refine nd_iload hC dJ25_tryMergeRuns_257 rfl ?_
          refine nd_iconst hC (v := nI 1) (by rfl) dJ25_tryMergeRuns_259 ?_
          first | with_reducible refine nd_isubN hC (by omega) dJ25_tryMergeRuns_260 ?_ | refine nd_isub hC dJ25_tryMergeRuns_260 ?_
          refine nd_laloadN hC (List.getElem?_set_self hlx) (by omega) (by omega) dJ25_tryMergeRuns_261 ?_
          refine nd_aload_n hC dJ25_tryMergeRuns_262 rfl rfl ?_
          refine nd_iload hC dJ25_tryMergeRuns_263 rfl ?_
          refine nd_laloadN hC (List.getElem?_set_self hlx) (by omega) (by omega) dJ25_tryMergeRuns_265 ?_
          refine nd_lcmp_le hC (tgt := 316) dJ25_tryMergeRuns_266 dJ25_tryMergeRuns_267 (by decide) (fun hq3 => ?_) (fun hq3 => ?_)
          · rw [Int64.le_iff_toInt_le] at hq3
            refine J316 k2 f3 hx R rl rf r cnt last _ _ _ _ _ hp3 hk3 a2 a3 a4 a5 a6 a7 (fun i hi => a8 i (by omega)) a9' a10 (by omega) a12' ?_ (fun hx2 R2 hst2 => go19 hx2 R2 cnt _ _ hst2)
            refine so_s.join (mid := last) (v := (f3 last).toInt) hl2 hs3 (fun i b1 b2 => ?_) (fun i b1 b2 => hs3 last i (Nat.le_refl _) b1 b2)
            have := hl2 i (last - 1) b1 (by omega) (by omega)
            omega
          · refine nd_iload hC dJ25_tryMergeRuns_270 rfl ?_
            refine nd_iload hC dJ25_tryMergeRuns_272 rfl ?_
            refine nd_iload_n hC dJ25_tryMergeRuns_274 rfl ?_
            first | with_reducible refine nd_isubN hC (by omega) dJ25_tryMergeRuns_275 ?_ | refine nd_isub hC dJ25_tryMergeRuns_275 ?_
            refine nd_bipush hC (v := nI 7) (by rfl) dJ25_tryMergeRuns_276 ?_
            refine nd_ishr hC dJ25_tryMergeRuns_278 ?_
            rw [i_shr (by omega) (by decide)]
            first | with_reducible refine nd_icmp_leN hC (tgt := 284) (by omega) (by omega) dJ25_tryMergeRuns_279 (by decide) (fun hq4 => ?_) (fun hq4 => ?_) | refine nd_icmp_le hC (tgt := 284) dJ25_tryMergeRuns_279 (by decide) (fun hq4 => ?_) (fun hq4 => ?_)
            · have hq5 : 128 * cnt ≤ k2 - lo := by omega
              first | with_reducible refine nd_iincN hC dJ25_tryMergeRuns_284 rfl (Nat.le_of_ble_eq_true rfl) ?_ | refine nd_iinc hC dJ25_tryMergeRuns_284 rfl rfl (Nat.le_of_ble_eq_true rfl) ?_
              refine nd_iload hC dJ25_tryMergeRuns_287 rfl ?_
              refine nd_sipush hC (v := nI 5120) (by rfl) dJ25_tryMergeRuns_289 ?_
              first | with_reducible refine nd_icmp_neN hC (tgt := 297) (by omega) (by omega) dJ25_tryMergeRuns_292 (by decide) (fun hq6 => ?_) (fun hq6 => ?_) | refine nd_icmp_ne hC (tgt := 297) dJ25_tryMergeRuns_292 (by decide) (fun hq6 => ?_) (fun hq6 => ?_)
              · refine nd_iload hC dJ25_tryMergeRuns_297 rfl ?_
                refine nd_aload hC dJ25_tryMergeRuns_299 rfl rfl ?_
                refine nd_alen hC rfl ((List.getElem?_set_ne (by omega)).trans a4) dJ25_tryMergeRuns_301 ?_
                have so1 : ∀ i, i + 1 < cnt + 1 → so_s (r i) (r (i + 1)) f3 := fun i hi => a12 i (by omega)
                first | with_reducible refine nd_icmp_neN hC (tgt := 316) (by omega) (by omega) dJ25_tryMergeRuns_302 (by decide) (fun hq7 => ?_) (fun hq7 => ?_) | refine nd_icmp_ne hC (tgt := 316) dJ25_tryMergeRuns_302 (by decide) (fun hq7 => ?_) (fun hq7 => ?_)
                · refine J316 k2 f3 hx R rl rf r (cnt + 1) last _ _ _ _ _ hp3 hk3 a2 a3 a4 (by omega) a6 (by omega) (fun i hi => a8 i (by omega)) (fun i hi => a9 i (by omega)) a10 (by rw [Nat.add_sub_cancel, a11]; omega) so1 (by rw [Nat.add_sub_cancel, a11]; exact hs3) (fun hx2 R2 hst2 => go19 hx2 R2 (cnt + 1) _ _ hst2)
                · have hrl : rl = 127 := by omega
                  subst hrl
                  have hcs1 : cs = 1 ∧ ss = 127 := by omega
                  have hms3 := hms2 (by omega)
                  refine nd_aload hC dJ25_tryMergeRuns_305 rfl rfl ?_
                  refine nd_iload hC dJ25_tryMergeRuns_307 rfl ?_
                  refine nd_iconst hC (v := nI 1) (by rfl) dJ25_tryMergeRuns_309 ?_
                  refine nd_ishl hC dJ25_tryMergeRuns_310 ?_
                  rw [i_dbl2, show 2 * (cnt + 1) = 2 * 127 by omega]
                  refine nd_callS (mm2 := mJ16_copyOf_4) (As := [_, _]) (mc2 := 1) (ms2 := 254) (d2 := d - 1) hC rfl lkJ25_53 lmJ16_copyOf_4 (Nat.le_of_ble_eq_true rfl) (by omega) rfl (by exact Nat.le_of_ble_eq_true rfl) (by omega) (by omega) dJ25_tryMergeRuns_311 rfl ((so_copyOf (rl := 127) hg ((List.getElem?_set_ne (by omega)).trans a4) (by omega) (by omega) ?_))
                  rw [List.length_set, ← List.set_append_left _ _ hlx]
                  refine nd_astore hC dJ25_tryMergeRuns_314 (Nat.le_of_ble_eq_true rfl) rfl ?_
                  refine J316 k2 f3 _ hx.length 254 _ r (cnt + 1) last (cs + 1) (ss + 254) _ _ _ hp3 hk3 ((so_e.app (ty := 0) (N := 254) (y := .inl (va_cpy rf (fun _ => 0) 0 0 127)) a2).mono (by omega) (by omega)) a2.le (by simp; rfl) (by omega) (Or.inr ⟨rfl, by omega, by omega, by omega⟩) (by omega) (fun i hi => ?_) (fun i hi => a9 i (by omega)) a10 (by rw [Nat.add_sub_cancel, a11]; omega) so1 (by rw [Nat.add_sub_cancel, a11]; exact hs3) (fun hx2 R2 hst2 => go19 hx2 R2 (cnt + 1) _ _ hst2)
                  show va_cpy rf (fun _ => 0) 0 0 127 i = nI (r i)
                  unfold va_cpy
                  rw [if_pos (by omega), Nat.zero_add, Nat.sub_zero]
                  exact a8 i (by omega)
              · omega
            · have R2 := hk0 hx f3 cs ss hext hcs hss hp3
              refine nd_iconst hC (v := nI 0) (by rfl) dJ25_tryMergeRuns_282 ?_
              refine nd_ireturn hC rfl (by first | rfl | exact nd_b_nar _) (by omega) (by omega) dJ25_tryMergeRuns_283 (R2)
      have hst4 : ∀ f3, (∀ x, x < last → f3 x = f2 x) → so_st h lo sz f3 hx v cnt last cs ss := fun f3 e => hst.congr e
      refine nd_aload_n hC dJ25_tryMergeRuns_26 rfl rfl ?_
      refine nd_iload hC dJ25_tryMergeRuns_27 rfl ?_
      refine nd_iconst hC (v := nI 1) (by rfl) dJ25_tryMergeRuns_29 ?_
      first | with_reducible refine nd_isubN hC (by omega) dJ25_tryMergeRuns_30 ?_ | refine nd_isub hC dJ25_tryMergeRuns_30 ?_
      refine nd_laloadN hC (List.getElem?_set_self hlx) (by omega) (by omega) dJ25_tryMergeRuns_31 ?_
      refine nd_aload_n hC dJ25_tryMergeRuns_32 rfl rfl ?_
      refine nd_iload hC dJ25_tryMergeRuns_33 rfl ?_
      refine nd_laloadN hC (List.getElem?_set_self hlx) (by omega) (by omega) dJ25_tryMergeRuns_35 ?_
      refine nd_lcmp_ge hC (tgt := 67) dJ25_tryMergeRuns_36 dJ25_tryMergeRuns_37 (by decide) (fun hq2 => ?_) (fun hq2 => ?_)
      · rw [Int64.le_iff_toInt_le] at hq2
        refine nd_aload_n hC dJ25_tryMergeRuns_67 rfl rfl ?_
        refine nd_iload hC dJ25_tryMergeRuns_68 rfl ?_
        refine nd_iconst hC (v := nI 1) (by rfl) dJ25_tryMergeRuns_70 ?_
        first | with_reducible refine nd_isubN hC (by omega) dJ25_tryMergeRuns_71 ?_ | refine nd_isub hC dJ25_tryMergeRuns_71 ?_
        refine nd_laloadN hC (List.getElem?_set_self hlx) (by omega) (by omega) dJ25_tryMergeRuns_72 ?_
        refine nd_aload_n hC dJ25_tryMergeRuns_73 rfl rfl ?_
        refine nd_iload hC dJ25_tryMergeRuns_74 rfl ?_
        refine nd_laloadN hC (List.getElem?_set_self hlx) (by omega) (by omega) dJ25_tryMergeRuns_76 ?_
        refine nd_lcmp_le hC (tgt := 169) dJ25_tryMergeRuns_77 dJ25_tryMergeRuns_78 (by decide) (fun hq3 => ?_) (fun hq3 => ?_)
        · rw [Int64.le_iff_toInt_le] at hq3
          have heq : f2 (k - 1) = f2 k := Int64.toInt_inj.mp (by omega)
          have J198 : ∀ k2 l9 l10 l11, k < k2 → k2 ≤ lo + sz → so_c last k2 f2 → nd_W g mJ25_tryMergeRuns d 3 ms K X 198 [some .null, some (.ref A), some (.int (nI lo)), some (.int (nI sz)), some v, some (.int (nI (lo + sz))), some (.int (nI cnt)), some (.int (nI last)), some (.int (nI k2)), l9, l10, l11, none] [] (hx.set A (.inl (1, n, .inr (.inl f2)))) cs ss := by
            intro k2 l9 l10 l11 hkk hk3 hc3
            refine nd_iload hC dJ25_tryMergeRuns_198 rfl ?_
            refine nd_iload hC dJ25_tryMergeRuns_200 rfl ?_
            first | with_reducible refine nd_icmp_geN hC (tgt := 208) (by omega) (by omega) dJ25_tryMergeRuns_202 (by decide) (fun hq4 => ?_) (fun hq4 => ?_) | refine nd_icmp_ge hC (tgt := 208) dJ25_tryMergeRuns_202 (by decide) (fun hq4 => ?_) (fun hq4 => ?_)
            · exact J208 k2 f2 l9 l10 l11 hkk hk3 hp (fun i j b1 b2 b3 => by rw [hc3 i j b1 (by omega) (by omega) b3]; exact Int.le_refl _) hst
            · refine nd_goto hC (tgt := 19) dJ25_tryMergeRuns_205 (by decide) ?_
              exact ih k2 f2 hx v cnt last cs ss l9 l10 l11 (by omega) (by omega) hk3 (by omega) hp hc3 hst (fun z => by omega)
          have LC : ∀ s k2, lo + sz - k2 ≤ s → k ≤ k2 → k2 < lo + sz → f2 k2 = f2 k → so_c last (k2 + 1) f2 → nd_W g mJ25_tryMergeRuns d 3 ms K X 175 [some .null, some (.ref A), some (.int (nI lo)), some (.int (nI sz)), some v, some (.int (nI (lo + sz))), some (.int (nI cnt)), some (.int (nI last)), some (.int (nI k2)), some (.long (f2 k)), none, l11, none] [] (hx.set A (.inl (1, n, .inr (.inl f2)))) cs ss := by
            intro s
            induction s with
            | zero => intro k2 b1 b2 b3; omega
            | succ s ih2 =>
              intro k2 b1 b2 b3 b4 b5
              first | with_reducible refine nd_iincN hC dJ25_tryMergeRuns_175 rfl (Nat.le_of_ble_eq_true rfl) ?_ | refine nd_iinc hC dJ25_tryMergeRuns_175 rfl rfl (Nat.le_of_ble_eq_true rfl) ?_
              refine nd_iload hC dJ25_tryMergeRuns_178 rfl ?_
              refine nd_iload hC dJ25_tryMergeRuns_180 rfl ?_
              first | with_reducible refine nd_icmp_geN hC (tgt := 198) (by omega) (by omega) dJ25_tryMergeRuns_182 (by decide) (fun hq4 => ?_) (fun hq4 => ?_) | refine nd_icmp_ge hC (tgt := 198) dJ25_tryMergeRuns_182 (by decide) (fun hq4 => ?_) (fun hq4 => ?_)
              · exact J198 (k2 + 1) _ _ _ (by omega) (by omega) b5
              · refine nd_lload hC dJ25_tryMergeRuns_185 rfl ?_
                refine nd_aload_n hC dJ25_tryMergeRuns_187 rfl rfl ?_
                refine nd_iload hC dJ25_tryMergeRuns_188 rfl ?_
                refine nd_laloadN hC (List.getElem?_set_self hlx) (by omega) (by omega) dJ25_tryMergeRuns_190 ?_
                refine nd_lcmp_ne hC (tgt := 198) dJ25_tryMergeRuns_191 dJ25_tryMergeRuns_192 (by decide) (fun hq5 => ?_) (fun hq5 => ?_)
                · exact J198 (k2 + 1) _ _ _ (by omega) (by omega) b5
                · refine nd_goto hC (tgt := 175) dJ25_tryMergeRuns_195 (by decide) ?_
                  exact ih2 (k2 + 1) (by omega) (by omega) (by omega) hq5.symm (b5.c (v := f2 k) (by omega) (fun _ => by rw [Nat.add_sub_cancel]; exact b4) hq5.symm)
          refine nd_aload_n hC dJ25_tryMergeRuns_169 rfl rfl ?_
          refine nd_iload hC dJ25_tryMergeRuns_170 rfl ?_
          refine nd_laloadN hC (List.getElem?_set_self hlx) (by omega) (by omega) dJ25_tryMergeRuns_172 ?_
          refine nd_lstore hC dJ25_tryMergeRuns_173 (Nat.le_of_ble_eq_true rfl) ?_
          exact LC _ k (Nat.le_refl _) (Nat.le_refl _) (by omega) rfl (hc.c (v := f2 k) hlk (fun _ => heq) rfl)
        · rw [Int64.le_iff_toInt_le] at hq3
          have J108 : ∀ k2, k < k2 → k2 ≤ lo + sz → so_d last k2 f2 → nd_W g mJ25_tryMergeRuns d 3 ms K X 108 [some .null, some (.ref A), some (.int (nI lo)), some (.int (nI sz)), some v, some (.int (nI (lo + sz))), some (.int (nI cnt)), some (.int (nI last)), some (.int (nI k2)), l9, l10, l11, none] [] (hx.set A (.inl (1, n, .inr (.inl f2)))) cs ss := by
            intro k2 hkk hk3 hd3
            have X1 : ∀ t l9 l10 l11, last + t + t ≤ k2 → (k2 ≤ last + t + t + 1 ∨ (last + t + t + 1 < k2 ∧ (f2 (last + t)).toInt ≤ (f2 (k2 - 1 - t)).toInt)) → nd_W g mJ25_tryMergeRuns d 3 ms K X 166 [some .null, some (.ref A), some (.int (nI lo)), some (.int (nI sz)), some v, some (.int (nI (lo + sz))), some (.int (nI cnt)), some (.int (nI last)), some (.int (nI k2)), l9, l10, l11, none] [] (hx.set A (.inl (1, n, .inr (.inl (so_rv last k2 t f2))))) cs ss := by
              intro t l9 l10 l11 htt hor
              refine nd_goto hC (tgt := 208) dJ25_tryMergeRuns_166 (by decide) ?_
              exact J208 k2 _ _ _ _ hkk hk3 (hp.trans (so_rv_p hll hk3 htt)) (so_rv_end hd3 hor).1 (hst4 _ (fun x hx9 => by unfold so_rv; rw [if_neg (by omega)]))
            have LR : ∀ s t l11, k2 - t ≤ s → last + t + t ≤ k2 → nd_W g mJ25_tryMergeRuns d 3 ms K X 118 [some .null, some (.ref A), some (.int (nI lo)), some (.int (nI sz)), some v, some (.int (nI (lo + sz))), some (.int (nI cnt)), some (.int (nI last)), some (.int (nI k2)), some (.int (nI (last + t) - nI 1)), some (.int (nI (k2 - t))), l11, none] [] (hx.set A (.inl (1, n, .inr (.inl (so_rv last k2 t f2))))) cs ss := by
              intro s
              induction s with
              | zero => intro t l11 b1 b2; omega
              | succ s ih2 =>
                intro t l11 b1 b2
                have e1 : so_rv last k2 t f2 (last + t) = f2 (last + t) ∨ k2 ≤ last + t + t + 1 := by
                  by_cases z : k2 ≤ last + t + t + 1
                  · exact Or.inr z
                  · refine Or.inl ?_
                    unfold so_rv
                    rw [if_neg (by omega)]
                have e2 : so_rv last k2 t f2 (k2 - 1 - t) = f2 (k2 - 1 - t) ∨ k2 ≤ last + t + t + 1 := by
                  by_cases z : k2 ≤ last + t + t + 1
                  · exact Or.inr z
                  · refine Or.inl ?_
                    unfold so_rv
                    rw [if_neg (by omega)]
                refine nd_iinc hC dJ25_tryMergeRuns_118 rfl (i_inc1 _) (Nat.le_of_ble_eq_true rfl) ?_
                refine nd_iload hC dJ25_tryMergeRuns_121 rfl ?_
                first | with_reducible refine nd_iincN hC dJ25_tryMergeRuns_123 rfl (Nat.le_of_ble_eq_true rfl) ?_ | refine nd_iinc hC dJ25_tryMergeRuns_123 rfl rfl (Nat.le_of_ble_eq_true rfl) ?_
                rw [i_dec, show k2 - t = k2 - 1 - t + 1 by omega, i_pred (by omega)]
                refine nd_iload hC dJ25_tryMergeRuns_126 rfl ?_
                first | with_reducible refine nd_icmp_geN hC (tgt := 166) (by omega) (by omega) dJ25_tryMergeRuns_128 (by decide) (fun hq4 => ?_) (fun hq4 => ?_) | refine nd_icmp_ge hC (tgt := 166) dJ25_tryMergeRuns_128 (by decide) (fun hq4 => ?_) (fun hq4 => ?_)
                · exact X1 t _ _ _ b2 (Or.inl (by omega))
                refine nd_aload_n hC dJ25_tryMergeRuns_131 rfl rfl ?_
                refine nd_iload hC dJ25_tryMergeRuns_132 rfl ?_
                refine nd_laloadN hC (List.getElem?_set_self hlx) (by omega) (by omega) dJ25_tryMergeRuns_134 ?_
                refine nd_aload_n hC dJ25_tryMergeRuns_135 rfl rfl ?_
                refine nd_iload hC dJ25_tryMergeRuns_136 rfl ?_
                refine nd_laloadN hC (List.getElem?_set_self hlx) (by omega) (by omega) dJ25_tryMergeRuns_138 ?_
                refine nd_lcmp_le hC (tgt := 166) dJ25_tryMergeRuns_139 dJ25_tryMergeRuns_140 (by decide) (fun hq5 => ?_) (fun hq5 => ?_)
                · rw [Int64.le_iff_toInt_le] at hq5
                  refine X1 t _ _ _ b2 (Or.inr ⟨by omega, ?_⟩)
                  rcases e1 with e1 | e1
                  · rcases e2 with e2 | e2
                    · rw [e1, e2] at hq5; exact hq5
                    · omega
                  · omega
                refine nd_aload_n hC dJ25_tryMergeRuns_143 rfl rfl ?_
                refine nd_iload hC dJ25_tryMergeRuns_144 rfl ?_
                refine nd_laloadN hC (List.getElem?_set_self hlx) (by omega) (by omega) dJ25_tryMergeRuns_146 ?_
                refine nd_lstore hC dJ25_tryMergeRuns_147 (Nat.le_of_ble_eq_true rfl) ?_
                refine nd_aload_n hC dJ25_tryMergeRuns_149 rfl rfl ?_
                refine nd_iload hC dJ25_tryMergeRuns_150 rfl ?_
                refine nd_aload_n hC dJ25_tryMergeRuns_152 rfl rfl ?_
                refine nd_iload hC dJ25_tryMergeRuns_153 rfl ?_
                refine nd_laloadN hC (List.getElem?_set_self hlx) (by omega) (by omega) dJ25_tryMergeRuns_155 ?_
                refine so_ast hC hlx hn (by omega) dJ25_tryMergeRuns_156 ?_
                refine nd_aload_n hC dJ25_tryMergeRuns_157 rfl rfl ?_
                refine nd_iload hC dJ25_tryMergeRuns_158 rfl ?_
                refine nd_lload hC dJ25_tryMergeRuns_160 rfl ?_
                refine so_ast hC hlx hn (by omega) dJ25_tryMergeRuns_162 ?_
                refine nd_goto hC (tgt := 118) dJ25_tryMergeRuns_163 (by decide) ?_
                rw [so_rv_s (by omega)]
                have M := ih2 (t + 1) (some (.long (so_rv last k2 t f2 (last + t)))) (by omega) (by omega)
                rw [show nI (last + (t + 1)) - nI 1 = nI (last + t) from i_pred (m := last + t) (by omega), show k2 - (t + 1) = k2 - 1 - t by omega] at M
                exact M
            refine nd_iload hC dJ25_tryMergeRuns_108 rfl ?_
            refine nd_iconst hC (v := nI 1) (by rfl) dJ25_tryMergeRuns_110 ?_
            refine nd_isub hC dJ25_tryMergeRuns_111 ?_
            refine nd_istore hC dJ25_tryMergeRuns_112 (Nat.le_of_ble_eq_true rfl) ?_
            refine nd_iload hC dJ25_tryMergeRuns_114 rfl ?_
            refine nd_istore hC dJ25_tryMergeRuns_116 (Nat.le_of_ble_eq_true rfl) ?_
            have M := LR _ 0 l11 (Nat.le_refl _) (by omega)
            rw [so_rv_0] at M
            exact M
          have LD : ∀ s k2, lo + sz - k2 ≤ s → k ≤ k2 → k2 < lo + sz → so_d last (k2 + 1) f2 → nd_W g mJ25_tryMergeRuns d 3 ms K X 81 [some .null, some (.ref A), some (.int (nI lo)), some (.int (nI sz)), some v, some (.int (nI (lo + sz))), some (.int (nI cnt)), some (.int (nI last)), some (.int (nI k2)), l9, l10, l11, none] [] (hx.set A (.inl (1, n, .inr (.inl f2)))) cs ss := by
            intro s
            induction s with
            | zero => intro k2 b1 b2 b3; omega
            | succ s ih2 =>
              intro k2 b1 b2 b3 b5
              first | with_reducible refine nd_iincN hC dJ25_tryMergeRuns_81 rfl (Nat.le_of_ble_eq_true rfl) ?_ | refine nd_iinc hC dJ25_tryMergeRuns_81 rfl rfl (Nat.le_of_ble_eq_true rfl) ?_
              refine nd_iload hC dJ25_tryMergeRuns_84 rfl ?_
              refine nd_iload hC dJ25_tryMergeRuns_86 rfl ?_
              first | with_reducible refine nd_icmp_geN hC (tgt := 108) (by omega) (by omega) dJ25_tryMergeRuns_88 (by decide) (fun hq4 => ?_) (fun hq4 => ?_) | refine nd_icmp_ge hC (tgt := 108) dJ25_tryMergeRuns_88 (by decide) (fun hq4 => ?_) (fun hq4 => ?_)
              · exact J108 (k2 + 1) (by omega) (by omega) b5
              · refine nd_aload_n hC dJ25_tryMergeRuns_91 rfl rfl ?_
                refine nd_iload hC dJ25_tryMergeRuns_92 rfl ?_
                refine nd_iconst hC (v := nI 1) (by rfl) dJ25_tryMergeRuns_94 ?_
                first | with_reducible refine nd_isubN hC (by omega) dJ25_tryMergeRuns_95 ?_ | refine nd_isub hC dJ25_tryMergeRuns_95 ?_
                refine nd_laloadN hC (List.getElem?_set_self hlx) (by omega) (by omega) dJ25_tryMergeRuns_96 ?_
                refine nd_aload_n hC dJ25_tryMergeRuns_97 rfl rfl ?_
                refine nd_iload hC dJ25_tryMergeRuns_98 rfl ?_
                refine nd_laloadN hC (List.getElem?_set_self hlx) (by omega) (by omega) dJ25_tryMergeRuns_100 ?_
                rw [Nat.add_sub_cancel]
                refine nd_lcmp_lt hC (tgt := 108) dJ25_tryMergeRuns_101 dJ25_tryMergeRuns_102 (by decide) (fun hq5 => ?_) (fun hq5 => ?_)
                · exact J108 (k2 + 1) (by omega) (by omega) b5
                · rw [Int64.lt_iff_toInt_lt] at hq5
                  refine nd_goto hC (tgt := 81) dJ25_tryMergeRuns_105 (by decide) ?_
                  exact ih2 (k2 + 1) (by omega) (by omega) (by omega) (b5.snoc (by omega))
          exact LD _ k (Nat.le_refl _) (Nat.le_refl _) (by omega) (hc.d hlk (fun _ => by omega))
      · rw [Int64.le_iff_toInt_le] at hq2
        have LA : ∀ s k2, lo + sz - k2 ≤ s → k ≤ k2 → k2 < lo + sz → so_s last (k2 + 1) f2 → nd_W g mJ25_tryMergeRuns d 3 ms K X 40 [some .null, some (.ref A), some (.int (nI lo)), some (.int (nI sz)), some v, some (.int (nI (lo + sz))), some (.int (nI cnt)), some (.int (nI last)), some (.int (nI k2)), l9, l10, l11, none] [] (hx.set A (.inl (1, n, .inr (.inl f2)))) cs ss := by
          intro s
          induction s with
          | zero => intro k2 b1 b2 b3; omega
          | succ s ih2 =>
            intro k2 b1 b2 b3 b5
            first | with_reducible refine nd_iincN hC dJ25_tryMergeRuns_40 rfl (Nat.le_of_ble_eq_true rfl) ?_ | refine nd_iinc hC dJ25_tryMergeRuns_40 rfl rfl (Nat.le_of_ble_eq_true rfl) ?_
            refine nd_iload hC dJ25_tryMergeRuns_43 rfl ?_
            refine nd_iload hC dJ25_tryMergeRuns_45 rfl ?_
            first | with_reducible refine nd_icmp_geN hC (tgt := 208) (by omega) (by omega) dJ25_tryMergeRuns_47 (by decide) (fun hq4 => ?_) (fun hq4 => ?_) | refine nd_icmp_ge hC (tgt := 208) dJ25_tryMergeRuns_47 (by decide) (fun hq4 => ?_) (fun hq4 => ?_)
            · exact J208 (k2 + 1) f2 _ _ _ (by omega) (by omega) hp b5 hst
            · refine nd_aload_n hC dJ25_tryMergeRuns_50 rfl rfl ?_
              refine nd_iload hC dJ25_tryMergeRuns_51 rfl ?_
              refine nd_iconst hC (v := nI 1) (by rfl) dJ25_tryMergeRuns_53 ?_
              first | with_reducible refine nd_isubN hC (by omega) dJ25_tryMergeRuns_54 ?_ | refine nd_isub hC dJ25_tryMergeRuns_54 ?_
              refine nd_laloadN hC (List.getElem?_set_self hlx) (by omega) (by omega) dJ25_tryMergeRuns_55 ?_
              refine nd_aload_n hC dJ25_tryMergeRuns_56 rfl rfl ?_
              refine nd_iload hC dJ25_tryMergeRuns_57 rfl ?_
              refine nd_laloadN hC (List.getElem?_set_self hlx) (by omega) (by omega) dJ25_tryMergeRuns_59 ?_
              rw [Nat.add_sub_cancel]
              refine nd_lcmp_gt hC (tgt := 208) dJ25_tryMergeRuns_60 dJ25_tryMergeRuns_61 (by decide) (fun hq5 => ?_) (fun hq5 => ?_)
              · exact J208 (k2 + 1) f2 _ _ _ (by omega) (by omega) hp b5 hst
              · rw [Int64.lt_iff_toInt_lt] at hq5
                refine nd_goto hC (tgt := 40) dJ25_tryMergeRuns_64 (by decide) ?_
                exact ih2 (k2 + 1) (by omega) (by omega) (by omega) (b5.snoc (by omega))
        exact LA _ k (Nat.le_refl _) (Nat.le_refl _) (by omega) (hc.s hlk (fun _ => by omega))
  refine nd_null hC dJ25_tryMergeRuns_0 ?_
  refine nd_astore hC dJ25_tryMergeRuns_1 (Nat.le_of_ble_eq_true rfl) rfl ?_
  refine nd_iload_n hC dJ25_tryMergeRuns_3 rfl ?_
  refine nd_iload_n hC dJ25_tryMergeRuns_4 rfl ?_
  first | with_reducible refine nd_iaddN hC dJ25_tryMergeRuns_5 ?_ | refine nd_iadd hC dJ25_tryMergeRuns_5 ?_
  refine nd_istore hC dJ25_tryMergeRuns_6 (Nat.le_of_ble_eq_true rfl) ?_
  refine nd_iconst hC (v := nI 1) (by rfl) dJ25_tryMergeRuns_8 ?_
  refine nd_istore hC dJ25_tryMergeRuns_9 (Nat.le_of_ble_eq_true rfl) ?_
  refine nd_iload_n hC dJ25_tryMergeRuns_11 rfl ?_
  refine nd_istore hC dJ25_tryMergeRuns_12 (Nat.le_of_ble_eq_true rfl) ?_
  refine nd_iload_n hC dJ25_tryMergeRuns_14 rfl ?_
  refine nd_iconst hC (v := nI 1) (by rfl) dJ25_tryMergeRuns_15 ?_
  first | with_reducible refine nd_iaddN hC dJ25_tryMergeRuns_16 ?_ | refine nd_iadd hC dJ25_tryMergeRuns_16 ?_
  refine nd_istore hC dJ25_tryMergeRuns_17 (Nat.le_of_ble_eq_true rfl) ?_
  exact H19 _ (lo + 1) f h .null 1 lo 0 0 none none none (Nat.le_refl _) (by omega) (by omega) (by omega) so_p.rfl (fun i j b1 b2 b3 b4 => by rw [show i = j by omega]) (Or.inl ⟨rfl, rfl, rfl, rfl, rfl, rfl⟩) (fun _ => Or.inl rfl)
end SO9906

