set_option maxRecDepth 100000
section CX3
variable {g : nd_G} {mm : nd_Mt} {d mc ms : Nat} {K : nd_K} {h h0 : nd_H} {o : Nat → Nat} {nap n L : Nat} {N : nk_N} {s : sv} {l : List (List Nat)} {tl : Nat → Int32}
theorem cx_likes (hg : nd_OK g) (hd : 910 ≤ d) (hP : cw_P o h0 nap N s) (hv : sv_ok (nk_n N) s) (hN : nk_ok N) (hl : ck_lk h0 L l) (hL9 : L + 9 ≤ 94 ∨ 95 ≤ L) (hok : lk_ok (nk_n N) l) {folds gs : Nat} (hgs : gs < (nk_w N).length) (hk : ∀ h2 tl2, ck_fr 94 1 h0 h2 → cz_T h2 tl2 → K (.inl (some (.int (nk_likes N (sv_fr s) (sv_bk s) l folds gs)))) h2) : nd_M g mX1_likes d 0 0 [.ref 0, .int (nI gs), .ref L, .int (nI folds)] h0 K := by
  obtain ⟨⟨tp, fkd, fat, x, hO⟩, -, -, hS0, a5, ⟨tl, hT⟩, a8⟩ := id hP
  obtain ⟨fr9, bk, fo, mn, hS, -⟩ := hS0
  have hSa := hS.1
  obtain ⟨fa, ba, ga, m, ed, wv, kv, hv9, o1, o2, e1, e2, e3, e4, e5, e6⟩ := a5
  have hg4 : (nk_w N).length ≤ 4 := hN.2.2.1
  unfold cx_O at hO
  unfold nk_likes at hk
  refine nd_enter hg (by decide) rfl (Nat.le_of_ble_eq_true rfl) (fun X hC => ?_)
  refine nd_aload_n hC dX1_likes_0 rfl rfl ?_
  refine nd_get (ci := nX1) hC in_X1 rfl hO 0 (by decide) q384 (fun _ z => z) rfl dX1_likes_1 ?_
  refine nd_getN (ci := nX2) hC in_X2 rfl hSa 0 (by decide) q301 (fun _ z => z) rfl dX1_likes_4 ?_
  refine nd_getN (ci := nX3) hC in_X3 rfl e1 5 (by decide) q282 (fun _ z => z) rfl dX1_likes_7 ?_
  rcases e6 with ⟨w1, rfl⟩ | ⟨w1, a, f, rfl, hf, hsu⟩
  · rw [w1] at hk
    refine nd_nonnullN hC dX1_likes_10 ?_
    refine nd_iconst hC (v := nI 0) (by rfl) dX1_likes_13 ?_
    refine nd_ireturn hC rfl (by first | rfl | exact nd_b_nar _) (by omega) (by omega) dX1_likes_14 ((hk h0 tl ck_fr.rfl hT))
  · refine nd_nonnull hC (tgt := 15) dX1_likes_10 (by decide) ?_
    refine nd_aload_n hC dX1_likes_15 rfl rfl ?_
    refine nd_aload_n hC dX1_likes_16 rfl rfl ?_
    refine nd_iload_n hC dX1_likes_17 rfl ?_
    refine nd_callV (mm2 := mX1_asks) (As := [_, _]) (mc2 := 0) (ms2 := 0) (d2 := d - 1) hC rfl lkX1_243 ⟨rfl, lmX1_asks⟩ (hO) rfl (Nat.le_of_ble_eq_true rfl) (by omega) rfl (by exact Nat.le_of_ble_eq_true rfl) (by omega) (by omega) dX1_likes_18 rfl ((cx_asks hg (by omega) hP hv hl hL9 hok hN.1 (fun h tl2 fr hT ht => ?_)))
    have hF : ck_fr 94 1 h0 h := fr
    have hO := (fr.2 0 (by omega)).trans hO
    have hSa := (fr.2 1 (by omega)).trans hSa
    have e1 := (fr.2 nap (by have := a8 nap o1; omega)).trans e1
    have e3 := e3.k (fr.k (fun a ha => by have := a8 a ha; omega))
    have hsu := hsu.k (fr.k (fun a ha => by have := a8 a ha; omega))
    refine nd_pop hC (by rfl) dX1_likes_21 ?_
    refine nd_aload_n hC dX1_likes_22 rfl rfl ?_
    refine nd_get (ci := nX1) hC in_X1 rfl hO 9 (by decide) q395 (fun _ z => z) rfl dX1_likes_23 ?_
    refine nd_getN (ci := nX5) hC in_X5 rfl hT.1 0 (by decide) q364 (fun _ z => z) rfl dX1_likes_26 ?_
    refine nd_bipush hC (v := nI 6) (by rfl) dX1_likes_29 ?_
    refine nd_iload_n hC dX1_likes_31 rfl ?_
    refine cz_ast hC hT (by omega) dX1_likes_32 (fun h hT fr => ?_)
    have hO := (fr.2 0 (by omega)).trans hO
    have hSa := (fr.2 1 (by omega)).trans hSa
    have e1 := (fr.2 nap (by have := a8 nap o1; omega)).trans e1
    have e3 := e3.k (fr.k (fun a ha => by have := a8 a ha; omega))
    have hsu := hsu.k (fr.k (fun a ha => by have := a8 a ha; omega))
    have hF := hF.trans fr
    refine nd_aload_n hC dX1_likes_33 rfl rfl ?_
    refine nd_get (ci := nX1) hC in_X1 rfl hO 9 (by decide) q395 (fun _ z => z) rfl dX1_likes_34 ?_
    refine nd_getN (ci := nX5) hC in_X5 rfl hT.1 0 (by decide) q364 (fun _ z => z) rfl dX1_likes_37 ?_
    refine nd_bipush hC (v := nI 7) (by rfl) dX1_likes_40 ?_
    refine nd_aload_n hC dX1_likes_42 rfl rfl ?_
    refine nd_get (ci := nX1) hC in_X1 rfl hO 0 (by decide) q384 (fun _ z => z) rfl dX1_likes_43 ?_
    refine nd_getN (ci := nX2) hC in_X2 rfl hSa 0 (by decide) q301 (fun _ z => z) rfl dX1_likes_46 ?_
    refine nd_getN (ci := nX3) hC in_X3 rfl e1 2 (by decide) q275 (fun _ z => z) rfl dX1_likes_49 ?_
    refine nd_iload_n hC dX1_likes_52 rfl ?_
    obtain ⟨o3, l3, hs⟩ := id e3
    rcases hs with ⟨e, -⟩ | ⟨ed2, gf, o4, hLi, hgf⟩
    · rw [e] at hgs; exact absurd hgs (Nat.not_lt_zero _)
    · obtain ⟨m2, hb, he⟩ := id hLi
      have hw100 : (nk_w N).getD gs 0 < 100 := hN.2.2.2.1 gs hgs
      have hgi := hgf gs hgs
      refine nd_callV (mm2 := mJ2_get) (As := [_]) (mc2 := 0) (ms2 := 0) (d2 := d - 1) hC rfl lkX1_265 ⟨rfl, lmJ2_get⟩ (hb) rfl (Nat.le_of_ble_eq_true rfl) (by omega) rfl (by exact Nat.le_of_ble_eq_true rfl) (by omega) (by omega) dX1_likes_53 rfl ((ca_get hg (by omega) hLi hgs (by omega) (by rw [hgi]; rfl) ?_))
      rw [hgi]
      refine nd_castI hC (by omega) q939 dX1_likes_56 ?_
      refine nd_callVI (mm2 := mJ14_intValue) (As := []) (d2 := d - 1) hC (by omega) rfl lkX1_271 ⟨rfl, lmJ14_intValue⟩ (Nat.le_of_ble_eq_true rfl) (by omega) rfl (by exact Nat.le_of_ble_eq_true rfl) (by omega) (by omega) dX1_likes_59 rfl (cb_int hg hw100 ?_)
      refine cz_ast hC hT (by omega) dX1_likes_62 (fun h hT fr => ?_)
      have hO := (fr.2 0 (by omega)).trans hO
      have hSa := (fr.2 1 (by omega)).trans hSa
      have e1 := (fr.2 nap (by have := a8 nap o1; omega)).trans e1
      have e3 := e3.k (fr.k (fun a ha => by have := a8 a ha; omega))
      have hsu := hsu.k (fr.k (fun a ha => by have := a8 a ha; omega))
      have hF := hF.trans fr
      refine nd_aload_n hC dX1_likes_63 rfl rfl ?_
      refine nd_get (ci := nX1) hC in_X1 rfl hO 0 (by decide) q384 (fun _ z => z) rfl dX1_likes_64 ?_
      refine nd_getN (ci := nX2) hC in_X2 rfl hSa 0 (by decide) q301 (fun _ z => z) rfl dX1_likes_67 ?_
      refine nd_getN (ci := nX3) hC in_X3 rfl e1 5 (by decide) q282 (fun _ z => z) rfl dX1_likes_70 ?_
      refine nd_aload_n hC dX1_likes_73 rfl rfl ?_
      refine nd_get (ci := nX1) hC in_X1 rfl hO 9 (by decide) q395 (fun _ z => z) rfl dX1_likes_74 ?_
      obtain ⟨v, v1, E⟩ := ev_ok hg hT hsu
      rw [lw_val_of (m := 8) w1 hN.2.2.2.2.2.2.2.2.1 (fun k hk => ?_) v1] at hk
      · refine ev_callX1 hC rfl (by omega) (by exact Nat.le_of_ble_eq_true rfl) (by omega) (by omega) dX1_likes_77 (E (d - 1) _ (by omega) ?_)
        refine nd_ireturn hC rfl (by first | rfl | exact nd_b_nar _) (by omega) (by omega) dX1_likes_82 ((hk h _ hF hT))
      · unfold lw_ask2
        by_cases k7 : k = 7
        · subst k7; rfl
        · by_cases k6 : k = 6
          · subst k6; rfl
          · rw [if_neg k7, if_neg k6, upd_n k7, upd_n k6]
            exact ht k (by omega)
end CX3

