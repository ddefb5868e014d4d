set_option maxRecDepth 100000
section CX2
variable {g : nd_G} {mm : nd_Mt} {d mc ms : Nat} {K : nd_K} {X : nd_X} {pc : Nat} {lv : List (Option Value)} {st : List Value} {h h0 : nd_H} {cs ss : Nat} {o : Nat → Nat} {nap n L : Nat} {N : nk_N} {s : sv} {l : List (List Nat)} {tl : Nat → Int32}
theorem nd_nonnull (hC : nd_Cx g mm X) {a : Nat} {off : Int} {tgt : Nat} (hd : decode mm.2.1 pc = .ok (.ifnonnull off, 3)) (ht : (pc : Int) + off = (tgt : Int)) (k : nd_W g mm d mc ms K X tgt lv st h cs ss) : nd_W g mm d mc ms K X pc lv (.ref a :: st) h cs ss := fun H ls locs hl hR hS => lv_ifnonnull hC.1 hC.2.1 hd ht (k H ls locs hl hR hS)
theorem nd_nonnullN (hC : nd_Cx g mm X) {off : Int} (hd : decode mm.2.1 pc = .ok (.ifnonnull off, 3)) (k : nd_W g mm d mc ms K X (pc + 3) lv st h cs ss) : nd_W g mm d mc ms K X pc lv (.null :: st) h cs ss := fun H ls locs hl hR hS => lv_ifnonnullN hC.1 hC.2.1 hd (k H ls locs hl hR hS)
theorem nd_isnull (hC : nd_Cx g mm X) {a : Nat} {off : Int} (hd : decode mm.2.1 pc = .ok (.ifnull off, 3)) (k : nd_W g mm d mc ms K X (pc + 3) lv st h cs ss) : nd_W g mm d mc ms K X pc lv (.ref a :: st) h cs ss := fun H ls locs hl hR hS => lv_ifnull hC.1 hC.2.1 hd (k H ls locs hl hR hS)
theorem nd_isnullN (hC : nd_Cx g mm X) {off : Int} {tgt : Nat} (hd : decode mm.2.1 pc = .ok (.ifnull off, 3)) (ht : (pc : Int) + off = (tgt : Int)) (k : nd_W g mm d mc ms K X tgt lv st h cs ss) : nd_W g mm d mc ms K X pc lv (.null :: st) h cs ss := fun H ls locs hl hR hS => lv_ifnullN hC.1 hC.2.1 hd ht (k H ls locs hl hR hS)
theorem cx_asks (hg : nd_OK g) (hd : 3 ≤ d) (hP : cw_P o h0 nap N s) (hv : sv_ok (nk_n N) s) (hl : ck_lk h0 L l) (hL9 : L + 9 ≤ 94 ∨ 95 ≤ L) (hok : lk_ok (nk_n N) l) (hn : nk_n N ≤ 6) {folds : Nat} (hk : ∀ h2 tl2, ck_fr 94 1 h0 h2 → cz_T h2 tl2 → (∀ k, k < 6 → tl2 k = lw_ask (sv_fr s) (sv_bk s) (nk_n N) l folds k) → K (.inl (some (.ref 93))) h2) : nd_M g mX1_asks d 0 0 [.ref 0, .ref L, .int (nI folds)] h0 K := by
  obtain ⟨⟨tp, fkd, fat, x, hO⟩, -, -, hS0, -, ⟨tl, hT⟩, -⟩ := id hP
  obtain ⟨fr9, bk, fo, mn, hS, -⟩ := hS0
  have hSa := hS.1
  obtain ⟨w, hi, co, hL, rfl, hlc⟩ := id hl
  unfold cx_O at hO
  have hF : ck_fr 94 1 h0 h0 := ck_fr.rfl
  refine nd_enter hg (by decide) rfl (Nat.le_of_ble_eq_true rfl) (fun X hC => ?_)
  refine nd_aload_n hC dX1_asks_0 rfl rfl ?_
  refine nd_get (ci := nX1) hC in_X1 rfl hO 9 (by decide) q395 (fun _ z => z) rfl dX1_asks_1 ?_
  refine nd_getN (ci := nX5) hC in_X5 rfl hT.1 0 (by decide) q364 (fun _ z => z) rfl dX1_asks_4 ?_
  refine nd_astore_n hC dX1_asks_7 (Nat.le_of_ble_eq_true rfl) rfl ?_
  refine nd_aload_n hC dX1_asks_8 rfl rfl ?_
  refine nd_iconst hC (v := nI 0) (by rfl) dX1_asks_9 ?_
  refine nd_aload_n hC dX1_asks_10 rfl rfl ?_
  refine nd_getN (ci := nX4) hC in_X4 rfl hL.1 2 (by decide) q344 (fun _ z => z) rfl dX1_asks_11 ?_
  refine cz_ast hC hT (by omega) dX1_asks_14 (fun h hT fr => ?_)
  have hO := (fr.2 0 (by omega)).trans hO
  have hL := hL.fr fr (by omega)
  have hl := hl.fr fr (by omega)
  have hP := hP.ask fr hT
  have hSa := (fr.2 1 (by omega)).trans hSa
  have hF := hF.trans fr
  refine nd_aload_n hC dX1_asks_15 rfl rfl ?_
  refine nd_iconst hC (v := nI 1) (by rfl) dX1_asks_16 ?_
  refine nd_aload_n hC dX1_asks_17 rfl rfl ?_
  refine nd_callV (mm2 := mX4_greatest) (As := []) (mc2 := 0) (ms2 := 0) (d2 := d - 1) hC rfl lkX1_227 ⟨rfl, lmX4_greatest⟩ (hL.1) rfl (Nat.le_of_ble_eq_true rfl) (by omega) rfl (by exact Nat.le_of_ble_eq_true rfl) (by omega) (by omega) dX1_asks_18 rfl ((cl_greatest hg hl hok hn ?_))
  refine cz_ast hC hT (by omega) dX1_asks_21 (fun h hT fr => ?_)
  have hO := (fr.2 0 (by omega)).trans hO
  have hL := hL.fr fr (by omega)
  have hl := hl.fr fr (by omega)
  have hP := hP.ask fr hT
  have hSa := (fr.2 1 (by omega)).trans hSa
  have hF := hF.trans fr
  refine nd_aload_n hC dX1_asks_22 rfl rfl ?_
  refine nd_iconst hC (v := nI 2) (by rfl) dX1_asks_23 ?_
  refine nd_iload_n hC dX1_asks_24 rfl ?_
  refine cz_ast hC hT (by omega) dX1_asks_25 (fun h hT fr => ?_)
  have hO := (fr.2 0 (by omega)).trans hO
  have hL := hL.fr fr (by omega)
  have hl := hl.fr fr (by omega)
  have hP := hP.ask fr hT
  have hSa := (fr.2 1 (by omega)).trans hSa
  have hF := hF.trans fr
  refine nd_aload_n hC dX1_asks_26 rfl rfl ?_
  refine nd_iconst hC (v := nI 3) (by rfl) dX1_asks_27 ?_
  refine nd_aload_n hC dX1_asks_28 rfl rfl ?_
  refine nd_aload_n hC dX1_asks_29 rfl rfl ?_
  refine nd_callV (mm2 := mX1_top) (As := [_]) (mc2 := 0) (ms2 := 0) (d2 := d - 1) hC rfl lkX1_230 ⟨rfl, lmX1_top⟩ (hO) rfl (Nat.le_of_ble_eq_true rfl) (by omega) rfl (by exact Nat.le_of_ble_eq_true rfl) (by omega) (by omega) dX1_asks_30 rfl ((cx_top hg (by omega) hP hv hl hok hn ?_))
  refine cz_ast hC hT (by omega) dX1_asks_33 (fun h hT fr => ?_)
  have hO := (fr.2 0 (by omega)).trans hO
  have hL := hL.fr fr (by omega)
  have hl := hl.fr fr (by omega)
  have hP := hP.ask fr hT
  have hSa := (fr.2 1 (by omega)).trans hSa
  have hF := hF.trans fr
  refine nd_aload_n hC dX1_asks_34 rfl rfl ?_
  refine nd_iconst hC (v := nI 4) (by rfl) dX1_asks_35 ?_
  refine nd_aload_n hC dX1_asks_36 rfl rfl ?_
  refine nd_aload_n hC dX1_asks_37 rfl rfl ?_
  refine nd_callV (mm2 := mX1_under) (As := [_]) (mc2 := 0) (ms2 := 0) (d2 := d - 1) hC rfl lkX1_234 ⟨rfl, lmX1_under⟩ (hO) rfl (Nat.le_of_ble_eq_true rfl) (by omega) rfl (by exact Nat.le_of_ble_eq_true rfl) (by omega) (by omega) dX1_asks_38 rfl ((cx_under hg (by omega) hP hv hl hok hn ?_))
  refine cz_ast hC hT (by omega) dX1_asks_41 (fun h hT fr => ?_)
  have hO := (fr.2 0 (by omega)).trans hO
  have hL := hL.fr fr (by omega)
  have hl := hl.fr fr (by omega)
  have hP := hP.ask fr hT
  have hSa := (fr.2 1 (by omega)).trans hSa
  have hF := hF.trans fr
  refine nd_aload_n hC dX1_asks_42 rfl rfl ?_
  refine nd_iconst hC (v := nI 5) (by rfl) dX1_asks_43 ?_
  refine nd_aload_n hC dX1_asks_44 rfl rfl ?_
  refine nd_get (ci := nX1) hC in_X1 rfl hO 0 (by decide) q384 (fun _ z => z) rfl dX1_asks_45 ?_
  refine nd_callV (mm2 := mX2_all) (As := []) (mc2 := 0) (ms2 := 0) (d2 := d - 1) hC rfl lkX1_237 ⟨rfl, lmX2_all⟩ (hSa) rfl (Nat.le_of_ble_eq_true rfl) (by omega) rfl (by exact Nat.le_of_ble_eq_true rfl) (by omega) (by omega) dX1_asks_48 rfl ((cs_all hg (by omega) hP.2.2.2.1 hP.2.2.2.2.1.c hv.2.1 hv.2.2.1 hn ?_))
  refine nd_aload_n hC dX1_asks_51 rfl rfl ?_
  refine nd_iconst hC (v := nI 3) (by rfl) dX1_asks_52 ?_
  refine nd_ialoadN hC hT.2 (by omega) (by omega) dX1_asks_53 ?_
  refine nd_isub hC dX1_asks_54 ?_
  refine nd_aload_n hC dX1_asks_55 rfl rfl ?_
  refine nd_iconst hC (v := nI 4) (by rfl) dX1_asks_56 ?_
  refine nd_ialoadN hC hT.2 (by omega) (by omega) dX1_asks_57 ?_
  refine nd_isub hC dX1_asks_58 ?_
  refine cz_ast hC hT (by omega) dX1_asks_59 (fun h hT fr => ?_)
  have hO := (fr.2 0 (by omega)).trans hO
  have hL := hL.fr fr (by omega)
  have hl := hl.fr fr (by omega)
  have hP := hP.ask fr hT
  have hSa := (fr.2 1 (by omega)).trans hSa
  have hF := hF.trans fr
  refine nd_aload_n hC dX1_asks_60 rfl rfl ?_
  refine nd_get (ci := nX1) hC in_X1 rfl hO 9 (by decide) q395 (fun _ z => z) rfl dX1_asks_61 ?_
  refine nd_areturn hC rfl (Or.inl ⟨_, rfl⟩) rfl (by omega) (by omega) dX1_asks_64 (hk h _ hF hT (fun k hk => ?_))
  obtain rfl | rfl | rfl | rfl | rfl | rfl : k = 0 ∨ k = 1 ∨ k = 2 ∨ k = 3 ∨ k = 4 ∨ k = 5 := by omega
  · rfl
  · rfl
  · rfl
  · rfl
  · rfl
  · rfl
theorem lw_val_of {ask tl2 : Nat → Int32} {m : Nat} {p : List Nat} {v : Int32} (hne : p ≠ []) (hw : p = [] ∨ lw_wf m 0 p) (hk : ∀ k, k < m → tl2 k = ask k) (hv : ∀ st, lw_ev tl2 p st = v :: st) : lw_val ask p = v := by
  unfold lw_val
  rw [if_neg hne]
  rcases hw with hw | hw
  · exact absurd hw hne
  · rw [← lw_ev_congr hk p 0 [] hw, hv]; rfl
theorem cx_worth2 (hg : nd_OK g) (hd : 910 ≤ d) (hP : cw_P o h0 nap N s) (hv : sv_ok (nk_n N) s) (hN : nk_ok N) (hl : ck_lk h0 L l) (hL9 : L + 9 ≤ 94 ∨ 95 ≤ L) (hok : lk_ok (nk_n N) l) {folds : Nat} (hk : ∀ h2 tl2, ck_fr 94 1 h0 h2 → cz_T h2 tl2 → K (.inl (some (.int (nk_worth N (sv_fr s) (sv_bk s) l folds)))) h2) : nd_M g mX1_worth_2 d 0 0 [.ref 0, .ref L, .int (nI folds)] h0 K := by
  obtain ⟨⟨tp, fkd, fat, x, hO⟩, -, -, hS0, a5, ⟨tl, hT⟩, a8⟩ := id hP
  obtain ⟨fr9, bk, fo, mn, hS, -⟩ := hS0
  obtain ⟨fa, ba, ga, m, ed, wv, kv, hv9, o1, o2, e1, e2, e3, e4, e5, e6⟩ := a5
  unfold cx_O at hO
  unfold nk_worth at hk
  refine nd_enter hg (by decide) rfl (Nat.le_of_ble_eq_true rfl) (fun X hC => ?_)
  refine nd_aload_n hC dX1_worth_2_0 rfl rfl ?_
  refine nd_get (ci := nX1) hC in_X1 rfl hO 0 (by decide) q384 (fun _ z => z) rfl dX1_worth_2_1 ?_
  refine nd_getN (ci := nX2) hC in_X2 rfl hS.1 0 (by decide) q301 (fun _ z => z) rfl dX1_worth_2_4 ?_
  refine nd_getN (ci := nX3) hC in_X3 rfl e1 4 (by decide) q280 (fun _ z => z) rfl dX1_worth_2_7 ?_
  rcases e4 with ⟨w1, rfl⟩ | ⟨w1, a, f, rfl, hf, hsu⟩
  · rw [w1] at hk
    refine nd_nonnullN hC dX1_worth_2_10 ?_
    refine nd_iconst hC (v := nI 0) (by rfl) dX1_worth_2_13 ?_
    refine nd_goto hC (tgt := 38) dX1_worth_2_14 (by decide) ?_
    refine nd_ireturn hC rfl (by first | rfl | exact nd_b_nar _) (by omega) (by omega) dX1_worth_2_38 ((hk h0 tl ck_fr.rfl hT))
  · refine nd_nonnull hC (tgt := 17) dX1_worth_2_10 (by decide) ?_
    refine nd_aload_n hC dX1_worth_2_17 rfl rfl ?_
    refine nd_get (ci := nX1) hC in_X1 rfl hO 0 (by decide) q384 (fun _ z => z) rfl dX1_worth_2_18 ?_
    refine nd_getN (ci := nX2) hC in_X2 rfl hS.1 0 (by decide) q301 (fun _ z => z) rfl dX1_worth_2_21 ?_
    refine nd_getN (ci := nX3) hC in_X3 rfl e1 4 (by decide) q280 (fun _ z => z) rfl dX1_worth_2_24 ?_
    refine nd_aload_n hC dX1_worth_2_27 rfl rfl ?_
    refine nd_aload_n hC dX1_worth_2_28 rfl rfl ?_
    refine nd_iload_n hC dX1_worth_2_29 rfl ?_
    refine nd_callV (mm2 := mX1_asks) (As := [_, _]) (mc2 := 0) (ms2 := 0) (d2 := d - 1) hC rfl lkX1_243 ⟨rfl, lmX1_asks⟩ (hO) rfl (Nat.le_of_ble_eq_true rfl) (by omega) rfl (by exact Nat.le_of_ble_eq_true rfl) (by omega) (by omega) dX1_worth_2_30 rfl ((cx_asks hg (by omega) hP hv hl hL9 hok hN.1 (fun h2 tl2 f2 hT2 ht => ?_)))
    obtain ⟨v, v1, E⟩ := ev_ok hg hT2 (hsu.k (f2.k (fun a ha => by have := a8 a ha; omega)))
    rw [lw_val_of w1 hN.2.2.2.2.1 ht v1] at hk
    refine ev_callX1 hC rfl (by omega) (by exact Nat.le_of_ble_eq_true rfl) (by omega) (by omega) dX1_worth_2_33 (E (d - 1) _ (by omega) ?_)
    refine nd_ireturn hC rfl (by first | rfl | exact nd_b_nar _) (by omega) (by omega) dX1_worth_2_38 ((hk h2 tl2 f2 hT2))
theorem cx_holds2 (hg : nd_OK g) (hd : 910 ≤ d) (hP : cw_P o h0 nap N s) (hv : sv_ok (nk_n N) s) (hN : nk_ok N) (hl : ck_lk h0 L l) (hL9 : L + 9 ≤ 94 ∨ 95 ≤ L) (hok : lk_ok (nk_n N) l) {folds : Nat} (hk : ∀ h2 tl2, ck_fr 94 1 h0 h2 → cz_T h2 tl2 → K (.inl (some (.int (nd_b (nk_holds N (sv_fr s) (sv_bk s) l folds))))) h2) : nd_M g mX1_holds_2 d 0 0 [.ref 0, .ref L, .int (nI folds)] h0 K := by
  obtain ⟨⟨tp, fkd, fat, x, hO⟩, -, -, hS0, a5, ⟨tl, hT⟩, a8⟩ := id hP
  obtain ⟨fr9, bk, fo, mn, hS, -⟩ := hS0
  obtain ⟨fa, ba, ga, m, ed, wv, kv, hv9, o1, o2, e1, e2, e3, e4, e5, e6⟩ := a5
  unfold cx_O at hO
  unfold nk_holds at hk
  refine nd_enter hg (by decide) rfl (Nat.le_of_ble_eq_true rfl) (fun X hC => ?_)
  refine nd_aload_n hC dX1_holds_2_0 rfl rfl ?_
  refine nd_get (ci := nX1) hC in_X1 rfl hO 0 (by decide) q384 (fun _ z => z) rfl dX1_holds_2_1 ?_
  refine nd_getN (ci := nX2) hC in_X2 rfl hS.1 0 (by decide) q301 (fun _ z => z) rfl dX1_holds_2_4 ?_
  refine nd_getN (ci := nX3) hC in_X3 rfl e1 6 (by decide) q284 (fun _ z => z) rfl dX1_holds_2_7 ?_
  rcases e5 with ⟨w1, rfl⟩ | ⟨w1, a, F, f, rfl, hf, hsu⟩
  · rw [decide_eq_false (fun q => q w1), Bool.false_and] at hk
    refine nd_isnullN hC (tgt := 41) dX1_holds_2_10 (by decide) ?_
    refine nd_iconst hC (v := nI 0) (by rfl) dX1_holds_2_41 ?_
    refine nd_ireturn hC rfl (by first | rfl | exact nd_b_nar _) (by omega) (by omega) dX1_holds_2_42 ((hk h0 tl ck_fr.rfl hT))
  · refine nd_isnull hC dX1_holds_2_10 ?_
    refine nd_aload_n hC dX1_holds_2_13 rfl rfl ?_
    refine nd_get (ci := nX1) hC in_X1 rfl hO 0 (by decide) q384 (fun _ z => z) rfl dX1_holds_2_14 ?_
    refine nd_getN (ci := nX2) hC in_X2 rfl hS.1 0 (by decide) q301 (fun _ z => z) rfl dX1_holds_2_17 ?_
    refine nd_getN (ci := nX3) hC in_X3 rfl e1 6 (by decide) q284 (fun _ z => z) rfl dX1_holds_2_20 ?_
    refine nd_aload_n hC dX1_holds_2_23 rfl rfl ?_
    refine nd_aload_n hC dX1_holds_2_24 rfl rfl ?_
    refine nd_iload_n hC dX1_holds_2_25 rfl ?_
    refine nd_callV (mm2 := mX1_asks) (As := [_, _]) (mc2 := 0) (ms2 := 0) (d2 := d - 1) hC rfl lkX1_243 ⟨rfl, lmX1_asks⟩ (hO) rfl (Nat.le_of_ble_eq_true rfl) (by omega) rfl (by exact Nat.le_of_ble_eq_true rfl) (by omega) (by omega) dX1_holds_2_26 rfl ((cx_asks hg (by omega) hP hv hl hL9 hok hN.1 (fun h2 tl2 f2 hT2 ht => ?_)))
    obtain ⟨y, v1, E⟩ := et_ok hg hT2 (hsu.k (f2.k (fun a ha => by have := a8 a ha; omega)))
    rw [lw_val_of w1 hN.2.2.2.2.2.2.1 ht v1, decide_eq_true w1, Bool.true_and] at hk
    have ey : decide (nd_b y = nI 1) = y := by cases y <;> rfl
    rw [ey] at hk
    refine et_callX1 hC rfl (by omega) (by exact Nat.le_of_ble_eq_true rfl) (by omega) (by omega) dX1_holds_2_29 (E (d - 1) _ (by omega) ?_)
    first | with_reducible refine nd_if_eqB hC (tgt := 41) dX1_holds_2_34 (by decide) (fun hc => ?_) (fun hc => ?_) | with_reducible refine nd_if_eqN hC (tgt := 41) (by omega) dX1_holds_2_34 (by decide) (fun hc => ?_) (fun hc => ?_) | refine nd_if_eq hC (tgt := 41) dX1_holds_2_34 (by decide) (fun hc => ?_) (fun hc => ?_)
    · subst hc
      refine nd_iconst hC (v := nI 0) (by rfl) dX1_holds_2_41 ?_
      refine nd_ireturn hC rfl (by first | rfl | exact nd_b_nar _) (by omega) (by omega) dX1_holds_2_42 ((hk h2 tl2 f2 hT2))
    · subst hc
      refine nd_iconst hC (v := nI 1) (by rfl) dX1_holds_2_37 ?_
      refine nd_goto hC (tgt := 42) dX1_holds_2_38 (by decide) ?_
      refine nd_ireturn hC rfl (by first | rfl | exact nd_b_nar _) (by omega) (by omega) dX1_holds_2_42 ((hk h2 tl2 f2 hT2))
end CX2

