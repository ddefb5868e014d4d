set_option maxRecDepth 100000
abbrev sy_likes (S : sy_S) (gs : Nat) : Int32 := nk_likes (sy_N S) (sv_fr (sy_c S)) (sv_bk (sy_c S)) (sy_l S) (sy_c S).1.length gs
abbrev sy_likesF (S : sy_S) (gs : Nat) : Int32 := nk_likes (sy_N S) (sv_fr (sy_c S)) (sv_bk (sy_c S)) (lk_flat (sy_n S)) 0 gs
abbrev sy_better (S : sy_S) : lv_E → Bool := fun x => nk_better (sy_N S) (sv_fr (sy_c S)) (sv_bk (sy_c S)) x.2 ((sy_c S).1.length + x.1.length) (sy_likes S)
noncomputable abbrev op_better : Int32 → sy_S → sy_R := op_many sy_better
noncomputable def op_flat (cond : lv_E → Bool) (code : sy_S → lv_E → Int64) (S : sy_S) : sy_R := (0, nI (un_n cond (code S) (lv_all 5 (lk_flat (sy_n S)))), S)
noncomputable abbrev op_simple : sy_S → sy_R := op_flat (fun x => decide (x.2.length < 2)) (fun S x => lN (lk_ord x.2 (sy_n S)))
noncomputable abbrev op_patterns : sy_S → sy_R := op_flat (fun _ => true) (fun S x => lN (lk_crs x.2 (sy_n S - 1)))
theorem nk_better_congr {N : nk_N} {fr bk fr2 bk2 : Nat → Int32} {folds : Nat} {now now2 : Nat → Int32} {l : List (List Nat)} (hok : lk_ok (nk_n N) l) (hn : nk_n N ≤ 6) (h1 : ∀ c, c < nk_n N → fr c = fr2 c) (h2 : ∀ c, c < nk_n N → bk c = bk2 c) (h3 : ∀ i, i < (nk_w N).length → now i = now2 i) : nk_better N fr bk l folds now = nk_better N fr2 bk2 l folds now2 := by
  unfold nk_better
  congr 1
  · rw [Bool.eq_iff_iff, List.all_eq_true, List.all_eq_true]
    constructor
    · intro q x hx; rw [← h3 x (List.mem_range.mp hx), ← nk_likes_congr hok hn h1 h2]; exact q x hx
    · intro q x hx; rw [h3 x (List.mem_range.mp hx), nk_likes_congr hok hn h1 h2]; exact q x hx
  · rw [Bool.eq_iff_iff, List.any_eq_true, List.any_eq_true]
    constructor
    · rintro ⟨x, hx, q⟩; exact ⟨x, hx, by rw [← h3 x (List.mem_range.mp hx), ← nk_likes_congr hok hn h1 h2]; exact q⟩
    · rintro ⟨x, hx, q⟩; exact ⟨x, hx, by rw [h3 x (List.mem_range.mp hx), nk_likes_congr hok hn h1 h2]; exact q⟩
theorem lv_go_rows (xs : List lv_E) : ∀ s, lv_go se_rows s xs = (s + xs.length, false) := by
  induction xs with
  | nil => intro s; rfl
  | cons x xs ih => intro s; unfold lv_go; rw [if_neg (show ¬ (se_rows s x).2 = true from fun q => Bool.noConfusion q)]; show lv_go se_rows (s + 1) xs = _; rw [ih]; simp; omega
section MO19
variable {g : nd_G} {d : Nat} {K : nd_K} {h h0 : nd_H} {A : Nat → Nat → Int32} {F : Nat → Int32} {B : Nat → Nat → Int64} {f : Nat → Int32}
theorem mo_I.uf {tt k : Nat} {S : sy_S} {v : Int32} (h : mo_I tt S A F B) (hk : mo_kf k = false) : mo_I tt S A (va_up F k v) B := h.keep (Nat.le_refl _) (fun _ _ => Eq.refl _) (fun j e => va_up_n F v (fun q => by subst q; rw [hk] at e; exact absurd e (by decide))) (Eq.refl _)
theorem mo_I.gn {tt : Nat} {S : sy_S} (h : mo_I tt S A F B) : A 0 2 = nI (nk_w (sy_N S)).length := h.1.1.2.2.1
theorem mo_I.ar {tt j : Nat} {S : sy_S} (h : mo_I tt S A F B) (hj : mo_ka j = false) : mo_I tt S (va_up A j f) F B := h.keep (Nat.le_refl _) (fun k e => va_up_n A f (fun q => by subst q; rw [hj] at e; exact absurd e (by decide))) (fun _ _ => Eq.refl _) (Eq.refl _)
theorem mo_I.gx {tt p fm : Nat} {S : sy_S} {A2 : Nat → Nat → Int32} {F2 : Nat → Int32} {B2 : Nat → Nat → Int64} (hI : mo_I tt S A F B) (hx : mo_gx p fm A A2 F F2 B B2) : mo_I tt S A2 F2 B2 := by
  obtain ⟨h1, h2, h3, h4, h5, h6, h7, T, h8, h9, h10⟩ := hI
  unfold mo_I mo_tr
  rw [hx.1 0 rfl (by decide) (by decide), hx.1 2 rfl (by decide) (by decide), hx.1 3 rfl (by decide) (by decide), hx.1 5 rfl (by decide) (by decide), hx.1 40 rfl (by decide) (by decide), hx.1 41 rfl (by decide) (by decide), hx.2.1 6 rfl, hx.2.1 14 rfl, hx.2.1 15 rfl, hx.2.1 37 rfl, hx.2.2.1 42 (by decide)]
  refine ⟨h1, h2, h3, h4, h5, h6, h7, T, h8, h9, fun j hj => ?_⟩
  rcases hx.2.2.2.2.2 j with q | q
  · rw [q]; exact h10 j hj
  · exact ⟨T, Nat.le_refl _, by rw [q, h9]⟩
theorem mp_step (hg : nd_OK g) (hd : 18 ≤ d) : mp_ok g h0 mX7_step d [] (mp_i op_step) := by
  intro tt S A F B h K ht hI hS hw hk
  have h5 := sy_len5 hS
  have hok := sy_l_ok hS
  have hn : sy_n S ≤ 6 := hS.1.1.1
  unfold mp_i op_step at hk
  refine nd_enter hg (by decide) rfl (Nat.le_of_ble_eq_true rfl) (fun X hC => ?_)
  refine nd_aload_n hC dX7_step_0 rfl rfl ?_
  refine nd_iconst hC (v := nI 0) (by rfl) dX7_step_1 ?_
  refine mo_put_thrown hC hw rfl dX7_step_2 (fun h hw => ?_)
  refine nd_aload_n hC dX7_step_5 rfl rfl ?_
  refine nd_iconst hC (v := nI 3) (by rfl) dX7_step_6 ?_
  refine nd_aload_n hC dX7_step_7 rfl rfl ?_
  refine mo_callV (As := []) (d2 := d - 1) hC hw rfl lkX7_343 lyX7_343 (Nat.le_of_ble_eq_true rfl) (by omega) rfl (by exact Nat.le_of_ble_eq_true rfl) (Nat.zero_le _) (Nat.zero_le _) dX7_step_8 rfl ((sp_now hg (by omega) hI.th hS hw ?_))
  intro A2 h2 hl kA hI2 hw
  refine nd_iconst hC (v := nI 1) (by rfl) dX7_step_11 ?_
  refine mo_callV (As := [_, _, _]) (d2 := d - 1) hC hw rfl lkX7_502 lyX7_502 (Nat.le_of_ble_eq_true rfl) (by omega) rfl (by exact Nat.le_of_ble_eq_true rfl) (Nat.zero_le _) (Nat.zero_le _) dX7_step_12 rfl ((sp_askS hg (d0 := 8) (-536870912, []) hI2 hn h5 (by omega) (by omega) (fun d2 hd2 => se_best_ok hg hd2 hS.1.1 h5 hI2.1.1) (fun s A F B f q => ⟨q.1.up19 f, q.2⟩) (fun s A F B f q => ⟨q.1.up25 f, q.2⟩) (by omega) (by omega) hw hl hok ⟨⟨fun _ _ _ _ => rfl, fun _ _ => rfl, fun _ _ => rfl⟩, rfl, Nat.zero_le _, rfl, rfl, fun i hi => absurd hi (Nat.not_lt_zero _)⟩ (lv_B_T _ _ (fun _ => trivial) _ _) ?_))
  intro A3 F3 B3 h3 hiv hI3 e4 e27 e33 hw
  rw [se_bt_congr hok (fun x hx => nk_worth_congr hx hn (hI2.fr hS) (hI2.bk hS))] at hiv
  have h5b := hiv.2.2.1
  refine nd_aload_n hC dX7_step_15 rfl rfl ?_
  refine mo_get_bestMany hC hw rfl dX7_step_16 ?_
  rw [hiv.2.2.2.2.1]
  first | with_reducible refine nd_if_neB hC (tgt := 26) dX7_step_19 (by decide) (fun hc => ?_) (fun hc => ?_) | with_reducible refine nd_if_neN hC (tgt := 26) (by omega) dX7_step_19 (by decide) (fun hc => ?_) (fun hc => ?_) | refine nd_if_ne hC (tgt := 26) dX7_step_19 (by decide) (fun hc => ?_) (fun hc => ?_)
  · rw [if_neg (by omega)] at hk
    refine nd_aload_n hC dX7_step_26 rfl rfl ?_
    refine mo_get_bestRow hC hw rfl dX7_step_27 ?_
    refine nd_iconst hC (v := nI 0) (by rfl) dX7_step_30 ?_
    refine nd_ialoadN hC hw.bestRow (by omega) (by decide) dX7_step_31 ?_
    rw [hiv.2.2.2.2.2 0 (by omega)]
    refine nd_ireturn hC rfl (by first | rfl | exact nd_b_nar _) (by omega) (by omega) dX7_step_32 ((hk _ _ _ _ (hI3.t (by omega)) (e4.trans (va_up_s _ _ _)) hw))
  · rw [if_pos (by omega)] at hk
    refine nd_iconst hC (v := -1) (by rfl) dX7_step_22 ?_
    refine nd_goto hC (tgt := 32) dX7_step_23 (by decide) ?_
    refine nd_ireturn hC rfl (by first | rfl | exact nd_b_nar _) (by omega) (by omega) dX7_step_32 ((hk _ _ _ _ (hI3.t (by omega)) (e4.trans (va_up_s _ _ _)) hw))
theorem mp_rows (hg : nd_OK g) (hd : 17 ≤ d) (x : Int32) : mp_ok g h0 mX7_rows d [.int x] (mp_i (op_rows x)) := by
  intro tt S A F B h K ht hI hS hw hk
  have h5 := sy_len5 hS
  have hok := sy_l_ok hS
  have hn : sy_n S ≤ 6 := hS.1.1.1
  unfold mp_i op_rows at hk
  refine nd_enter hg (by decide) rfl (Nat.le_of_ble_eq_true rfl) (fun X hC => ?_)
  refine nd_aload_n hC dX7_rows_0 rfl rfl ?_
  refine nd_iconst hC (v := nI 0) (by rfl) dX7_rows_1 ?_
  refine mo_put_thrown hC hw rfl dX7_rows_2 (fun h hw => ?_)
  refine nd_iload_n hC dX7_rows_5 rfl ?_
  refine mo_callS (As := [_]) (d2 := d - 1) hC rfl lkX7_499 lyX7_499 (Nat.le_of_ble_eq_true rfl) (by omega) rfl (by exact Nat.le_of_ble_eq_true rfl) (Nat.zero_le _) (Nat.zero_le _) dX7_rows_6 rfl ((sp_isMore hg (by omega) ?_))
  first | with_reducible refine nd_if_neB hC (tgt := 18) dX7_rows_9 (by decide) (fun hc => ?_) (fun hc => ?_) | with_reducible refine nd_if_neN hC (tgt := 18) (by omega) dX7_rows_9 (by decide) (fun hc => ?_) (fun hc => ?_) | refine nd_if_ne hC (tgt := 18) dX7_rows_9 (by decide) (fun hc => ?_) (fun hc => ?_)
  · rw [if_pos hc] at hk
    obtain ⟨k, hk1, rfl⟩ := op_in_nat hc
    rw [nI_cl (by omega)] at hk
    refine nd_aload_n hC dX7_rows_18 rfl rfl ?_
    refine nd_iconst hC (v := nI 0) (by rfl) dX7_rows_19 ?_
    refine mo_put_askedWhat hC hw rfl dX7_rows_20 (fun h hw => ?_)
    refine nd_aload_n hC dX7_rows_23 rfl rfl ?_
    refine nd_iconst hC (v := nI 0) (by rfl) dX7_rows_24 ?_
    refine mo_put_rowMany hC hw rfl dX7_rows_25 (fun h hw => ?_)
    refine nd_aload_n hC dX7_rows_28 rfl rfl ?_
    refine nd_aload_n hC dX7_rows_29 rfl rfl ?_
    refine mo_callV (As := []) (d2 := d - 1) hC hw rfl lkX7_343 lyX7_343 (Nat.le_of_ble_eq_true rfl) (by omega) rfl (by exact Nat.le_of_ble_eq_true rfl) (Nat.zero_le _) (Nat.zero_le _) dX7_rows_30 rfl ((sp_now hg (by omega) ((hI.th.uf (k := 28) rfl).uf (k := 30) rfl) hS hw ?_))
    intro A2 h2 hl kA hI2 hw
    refine mo_put_from hC hw rfl dX7_rows_33 (fun h hw => ?_)
    refine nd_aload_n hC dX7_rows_36 rfl rfl ?_
    refine nd_aload_n hC dX7_rows_37 rfl rfl ?_
    refine mo_get_from hC hw rfl dX7_rows_38 ?_
    refine nd_iload_n hC dX7_rows_41 rfl ?_
    have e9 : (lv_lev k (sy_l S)).map (fun q => (([] : List Nat) ++ q.1, q.2)) = lv_lev k (sy_l S) := by simp
    refine mo_callV (As := [_, _]) (d2 := d - 1) hC hw rfl lkX7_422 lyX7_422 (Nat.le_of_ble_eq_true rfl) (by omega) rfl (by exact Nat.le_of_ble_eq_true rfl) (Nat.zero_le _) (Nat.zero_le _) dX7_rows_42 rfl ((sp_goes hg (d0 := 3) hn h5 (by omega) (fun d2 _ => se_rows_ok hg) (fun s A F B f q => ⟨q.1.up19 f, q.2⟩) (fun s A F B f q => ⟨q.1.up25 f, q.2⟩) k _ 0 [] (sy_l S) A2 _ B h _ (by omega) (lv_B_T _ _ (fun _ => trivial) _ _) ⟨⟨fun _ _ _ _ => rfl, fun _ _ => rfl, fun _ _ => rfl⟩, rfl, rfl⟩ hw hl hok (fun i hi => absurd hi (Nat.not_lt_zero _)) rfl (by simp; omega) ?_))
    rw [e9, lv_go_rows]
    intro A3 F3 B3 h3 hiv hx hw
    refine nd_pop hC (by rfl) dX7_rows_45 ?_
    refine nd_aload_n hC dX7_rows_46 rfl rfl ?_
    refine mo_get_rowMany hC hw rfl dX7_rows_47 ?_
    rw [hiv.2.2, Nat.zero_add]
    refine nd_ireturn hC rfl (by first | rfl | exact nd_b_nar _) (by omega) (by omega) dX7_rows_50 ((hk _ _ _ _ (((hI2.uf (k := 29) rfl).gx hx).t (by omega)) ((hx.2.1 4 rfl).trans rfl) hw))
  · rw [if_neg (by rw [hc]; decide)] at hk
    refine nd_aload_n hC dX7_rows_12 rfl rfl ?_
    refine nd_iconst hC (v := nI 1) (by rfl) dX7_rows_13 ?_
    refine mo_callV (As := [_]) (d2 := d - 1) hC hw rfl lkX7_244 lyX7_244 (Nat.le_of_ble_eq_true rfl) (by omega) rfl (by exact Nat.le_of_ble_eq_true rfl) (Nat.zero_le _) (Nat.zero_le _) dX7_rows_14 rfl ((sp_fails hg hw (fun h3 hw => ?_)))
    refine nd_ireturn hC rfl (by first | rfl | exact nd_b_nar _) (by omega) (by omega) dX7_rows_17 ((hk A _ _ h3 (hI.th.th.t (by omega)) (va_up_s _ _ _) hw))
theorem sp_laysLiked (hg : nd_OK g) (hd : 6 ≤ d) {tt : Nat} {S : sy_S} (hI : mo_I tt S A F B) (hS : sy_ok S) (hw : mo_W h0 A F B h) (hk : ∀ A2 h2, A2 0 = A 0 → mo_I tt S A2 F B → (∀ i, i < (nk_w (sy_N S)).length → A2 27 i = sy_likes S i) → mo_W h0 A2 F B h2 → K (.inl none) h2) : nd_M g mX7_laysLiked d 0 0 [.ref 101] h K := by
  have h5 := sy_len5 hS
  have hok := sy_l_ok hS
  have hn : sy_n S ≤ 6 := hS.1.1.1
  have hw4 : (nk_w (sy_N S)).length ≤ 4 := hS.1.1.2.2.1
  refine nd_enter hg (by decide) rfl (Nat.le_of_ble_eq_true rfl) (fun X hC => ?_)
  refine nd_aload_n hC dX7_laysLiked_0 rfl rfl ?_
  refine mo_callV (As := []) (d2 := d - 1) hC hw rfl lkX7_343 lyX7_343 (Nat.le_of_ble_eq_true rfl) (by omega) rfl (by exact Nat.le_of_ble_eq_true rfl) (Nat.zero_le _) (Nat.zero_le _) dX7_laysLiked_1 rfl ((sp_now hg (by omega) hI hS hw ?_))
  intro A2 h2 hl kA hI2 hw
  refine nd_istore_n hC dX7_laysLiked_4 (Nat.le_of_ble_eq_true rfl) ?_
  refine nd_iconst hC (v := nI 0) (by rfl) dX7_laysLiked_5 ?_
  refine nd_istore_n hC dX7_laysLiked_6 (Nat.le_of_ble_eq_true rfl) ?_
  have L : ∀ k, k ≤ (nk_w (sy_N S)).length → ∀ A3 h3, mo_lk (A3 19) (sy_c S).1.length (sy_l S) → A3 0 = A 0 → mo_I tt S A3 F B → (∀ i, i < k → A3 27 i = sy_likes S i) → mo_W h0 A3 F B h3 → nd_W g mX7_laysLiked d 0 0 K X 7 [some (.ref 101), some (.int (nI (sy_c S).1.length)), some (.int (nI k))] [] h3 0 0 := by
    refine nd_for _ _ ?_ ?_
    · intro A3 h hl e0 hI3 hv hw
      refine nd_iload_n hC dX7_laysLiked_7 rfl ?_
      refine nd_aload_n hC dX7_laysLiked_8 rfl rfl ?_
      refine mo_get_known hC hw rfl dX7_laysLiked_9 ?_
      refine nd_iconst hC (v := nI 2) (by rfl) dX7_laysLiked_12 ?_
      refine nd_ialoadN hC hw.known (by omega) (by decide) dX7_laysLiked_13 ?_
      rw [hI3.gn]
      first | with_reducible refine nd_icmp_geN hC (tgt := 35) (by omega) (by omega) dX7_laysLiked_14 (by decide) (fun hc => ?_) (fun hc => ?_) | refine nd_icmp_ge hC (tgt := 35) dX7_laysLiked_14 (by decide) (fun hc => ?_) (fun hc => ?_)
      · refine nd_return hC rfl (by omega) (by omega) dX7_laysLiked_35 ((hk A3 h e0 hI3 hv hw))
      · omega
    · intro k hk1 ih A3 h hl e0 hI3 hv hw
      refine nd_iload_n hC dX7_laysLiked_7 rfl ?_
      refine nd_aload_n hC dX7_laysLiked_8 rfl rfl ?_
      refine mo_get_known hC hw rfl dX7_laysLiked_9 ?_
      refine nd_iconst hC (v := nI 2) (by rfl) dX7_laysLiked_12 ?_
      refine nd_ialoadN hC hw.known (by omega) (by decide) dX7_laysLiked_13 ?_
      rw [hI3.gn]
      first | with_reducible refine nd_icmp_geN hC (tgt := 35) (by omega) (by omega) dX7_laysLiked_14 (by decide) (fun hc => ?_) (fun hc => ?_) | refine nd_icmp_ge hC (tgt := 35) dX7_laysLiked_14 (by decide) (fun hc => ?_) (fun hc => ?_)
      · omega
      · refine nd_aload_n hC dX7_laysLiked_17 rfl rfl ?_
        refine mo_get_likedNow hC hw rfl dX7_laysLiked_18 ?_
        refine nd_iload_n hC dX7_laysLiked_21 rfl ?_
        refine nd_aload_n hC dX7_laysLiked_22 rfl rfl ?_
        refine nd_iload_n hC dX7_laysLiked_23 rfl ?_
        refine nd_iload_n hC dX7_laysLiked_24 rfl ?_
        refine mo_callV (As := [_, _]) (d2 := d - 1) hC hw rfl lkX7_355 lyX7_355 (Nat.le_of_ble_eq_true rfl) (by omega) rfl (by exact Nat.le_of_ble_eq_true rfl) (Nat.zero_le _) (Nat.zero_le _) dX7_laysLiked_25 rfl ((sp_likesAt hg (by omega) hw (by omega) (show k < (nk_w (sy_N S)).length by omega) hI3.1.1 hS.1.1 hl hok ?_))
        intro A4 h hs hw
        rw [nk_likes_congr hok hn (hI3.fr hS) (hI3.bk hS)]
        refine mo_ast_likedNow hC hw (by omega) dX7_laysLiked_28 (fun h hw => ?_)
        try simp only [va_up_up, va_up_s] at hw
        first | with_reducible refine nd_iincN hC dX7_laysLiked_29 rfl (Nat.le_of_ble_eq_true rfl) ?_ | refine nd_iinc hC dX7_laysLiked_29 rfl rfl (Nat.le_of_ble_eq_true rfl) ?_
        refine nd_goto hC (tgt := 7) dX7_laysLiked_32 (by decide) ?_
        refine ih _ h ?_ ?_ ((hI3.a (mo_k.s2 hs)).ar rfl) ?_ hw
        · rw [va_up_n _ _ (by decide), hs 19 (by decide) (by decide)]; exact hl
        · rw [va_up_n _ _ (by decide), hs 0 (by decide) (by decide)]; exact e0
        · intro i hi
          rw [va_up_s]
          by_cases e : i = k
          · subst e; rw [upd_s]
          · rw [upd_n e, hs 27 (by decide) (by decide)]; exact hv i (by omega)
  exact L 0 (Nat.zero_le _) A2 h2 hl (kA 0 rfl) hI2 (fun i hi => absurd hi (Nat.not_lt_zero _)) hw
theorem mp_better (hg : nd_OK g) (hd : 18 ≤ d) (x : Int32) : mp_ok g h0 mX7_better d [.int x] (mp_i (op_better x)) := by
  intro tt S A F B h K ht hI hS hw hk
  refine nd_enter hg (by decide) rfl (Nat.le_of_ble_eq_true rfl) (fun X hC => ?_)
  refine nd_aload_n hC dX7_better_0 rfl rfl ?_
  refine mo_callV (As := []) (d2 := d - 1) hC hw rfl lkX7_552 lyX7_552 (Nat.le_of_ble_eq_true rfl) (by omega) rfl (by exact Nat.le_of_ble_eq_true rfl) (Nat.zero_le _) (Nat.zero_le _) dX7_better_1 rfl ((sp_laysLiked hg (by omega) hI hS hw ?_))
  intro A h2 e0 hI hv hw
  refine nd_aload_n hC dX7_better_4 rfl rfl ?_
  refine nd_bipush hC (v := nI 7) (by rfl) dX7_better_5 ?_
  refine nd_iload_n hC dX7_better_7 rfl ?_
  refine mo_callV (As := [_, _]) (d2 := d - 1) hC hw rfl lkX7_505 lyX7_505 (Nat.le_of_ble_eq_true rfl) (by omega) rfl (by exact Nat.le_of_ble_eq_true rfl) (Nat.zero_le _) (Nat.zero_le _) dX7_better_8 rfl ((sp_manyBy hg (by omega) (by omega) (cond := sy_better) (cond1 := fun x => nk_better (sy_N S) (mo_fr (A 0)) (mo_bk (A 0)) x.2 ((sy_c S).1.length + x.1.length) (A 27)) x ht hI hS hw (fun A2 F2 d2 kA hd2 => by rw [← kA 0 rfl, ← kA 27 rfl]; exact se_better_ok hg (by omega) hS.1.1 (sy_len5 hS) (by rw [kA 0 rfl]; exact hI.1.1)) (fun x hx => nk_better_congr hx hS.1.1.1 (hI.fr hS) (hI.bk hS) hv) ?_))
  intro A2 F2 B2 h2 q1 q2 hw
  refine nd_ireturn hC rfl (by first | rfl | exact nd_b_nar _) (by omega) (by omega) dX7_better_11 ((hk A2 F2 B2 h2 q1 q2 hw))
end MO19

