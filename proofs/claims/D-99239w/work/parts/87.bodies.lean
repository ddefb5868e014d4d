set_option maxRecDepth 100000
/-! ===== what the searches ask ===== -/
def cq_ord (l : List (List Nat)) : Nat → Nat
  | 0 => 0
  | k + 1 => 6 * cq_ord l k + (l.getD 0 []).getD k 0 / 2
section BO87
variable {g : nd_G} {d : Nat} {K : nd_K} {h h0 : nd_H} {o : Nat → Nat} {nap L b : Nat} {N : nk_N} {s : sv} {l : List (List Nat)}
theorem cx_leastLikes (hg : nd_OK g) (hd : 911 ≤ d) (hP : cw_P o h0 nap N s) (hv : sv_ok (nk_n N) s) (hN : nk_ok N) (hl : ck_lk h0 L l) (hL9 : L + 9 ≤ 94 ∨ 95 ≤ L) (hok : lk_ok (nk_n N) l) {folds : Nat} (hk : ∀ h2, ck_fr 94 1 h0 h2 → cw_P o h2 nap N s → K (.inl (some (.int (nk_least N (sv_fr s) (sv_bk s) l folds (if (nk_w N).length = 0 then nI 0 else nI 1000000) (nk_w N).length)))) h2) : nd_M g mX1_leastLikes d 0 0 [.ref 0, .ref L, .int (nI folds)] h0 K := by
  have hw4 : (nk_w N).length ≤ 4 := hN.2.2.1
  obtain ⟨⟨tp, fkd, fat, x, hO⟩, -⟩ := id hP
  unfold cx_O at hO
  refine nd_enter hg (by decide) rfl (Nat.le_of_ble_eq_true rfl) (fun X hC => ?_)
  have J : ∀ s0, s0 = (if (nk_w N).length = 0 then nI 0 else nI 1000000) → nd_W g mX1_leastLikes d 0 0 K X 14 [some (.ref 0), some (.ref L), some (.int (nI folds)), none, none] [.int s0] h0 0 0 := by
    intro s0 hs0
    rw [← hs0] at hk
    refine nd_istore_n hC dX1_leastLikes_14 (Nat.le_of_ble_eq_true rfl) ?_
    refine nd_iconst hC (v := nI 0) (by rfl) dX1_leastLikes_15 ?_
    refine nd_istore hC dX1_leastLikes_16 (Nat.le_of_ble_eq_true rfl) ?_
    have L1 : ∀ i, i ≤ (nk_w N).length → ∀ h2, ck_fr 94 1 h0 h2 → cw_P o h2 nap N s → nd_W g mX1_leastLikes d 0 0 K X 18 [some (.ref 0), some (.ref L), some (.int (nI folds)), some (.int (nk_least N (sv_fr s) (sv_bk s) l folds s0 i)), some (.int (nI i))] [] h2 0 0 := by
      refine nd_for (nk_w N).length _ ?_ ?_
      · intro h2 f2 hP2
        obtain ⟨⟨tp, fkd, fat, x, hO⟩, -⟩ := id hP2
        unfold cx_O at hO
        refine nd_iload hC dX1_leastLikes_18 rfl ?_
        refine nd_aload_n hC dX1_leastLikes_20 rfl rfl ?_
        refine nd_callV (mm2 := mX1_guests) (As := []) (mc2 := 0) (ms2 := 0) (d2 := d - 1) hC rfl lkX1_280 ⟨rfl, lmX1_guests⟩ (hO) rfl (Nat.le_of_ble_eq_true rfl) (by omega) rfl (by exact Nat.le_of_ble_eq_true rfl) (by omega) (by omega) dX1_leastLikes_21 rfl ((cx_guests hg (by omega) hP2 ?_))
        first | with_reducible refine nd_icmp_geN hC (tgt := 46) (by omega) (by omega) dX1_leastLikes_24 (by decide) (fun hq => ?_) (fun hq => ?_) | refine nd_icmp_ge hC (tgt := 46) dX1_leastLikes_24 (by decide) (fun hq => ?_) (fun hq => ?_)
        · refine nd_iload_n hC dX1_leastLikes_46 rfl ?_
          refine nd_ireturn hC rfl (by first | rfl | exact nd_b_nar _) (by omega) (by omega) dX1_leastLikes_47 ((hk h2 f2 hP2))
        · omega
      · intro i hi ih h2 f2 hP2
        obtain ⟨⟨tp, fkd, fat, x, hO⟩, -⟩ := id hP2
        unfold cx_O at hO
        refine nd_iload hC dX1_leastLikes_18 rfl ?_
        refine nd_aload_n hC dX1_leastLikes_20 rfl rfl ?_
        refine nd_callV (mm2 := mX1_guests) (As := []) (mc2 := 0) (ms2 := 0) (d2 := d - 1) hC rfl lkX1_280 ⟨rfl, lmX1_guests⟩ (hO) rfl (Nat.le_of_ble_eq_true rfl) (by omega) rfl (by exact Nat.le_of_ble_eq_true rfl) (by omega) (by omega) dX1_leastLikes_21 rfl ((cx_guests hg (by omega) hP2 ?_))
        first | with_reducible refine nd_icmp_geN hC (tgt := 46) (by omega) (by omega) dX1_leastLikes_24 (by decide) (fun hq => ?_) (fun hq => ?_) | refine nd_icmp_ge hC (tgt := 46) dX1_leastLikes_24 (by decide) (fun hq => ?_) (fun hq => ?_)
        · omega
        refine nd_iload_n hC dX1_leastLikes_27 rfl ?_
        refine nd_aload_n hC dX1_leastLikes_28 rfl rfl ?_
        refine nd_iload hC dX1_leastLikes_29 rfl ?_
        refine nd_aload_n hC dX1_leastLikes_31 rfl rfl ?_
        refine nd_iload_n hC dX1_leastLikes_32 rfl ?_
        refine nd_callV (mm2 := mX1_likes) (As := [_, _, _]) (mc2 := 0) (ms2 := 0) (d2 := d - 1) hC rfl lkX1_282 ⟨rfl, lmX1_likes⟩ (hO) rfl (Nat.le_of_ble_eq_true rfl) (by omega) rfl (by exact Nat.le_of_ble_eq_true rfl) (by omega) (by omega) dX1_leastLikes_33 rfl ((cx_likes hg (by omega) hP2 hv hN (hl.fr f2 (by omega)) hL9 hok hi (fun h3 tl3 f3 hT3 => ?_)))
        refine nd_mmin hC q944 (by omega) (by omega) (by exact Nat.le_of_ble_eq_true rfl) dX1_leastLikes_36 ?_
        refine nd_istore_n hC dX1_leastLikes_39 (Nat.le_of_ble_eq_true rfl) ?_
        first | with_reducible refine nd_iincN hC dX1_leastLikes_40 rfl (Nat.le_of_ble_eq_true rfl) ?_ | refine nd_iinc hC dX1_leastLikes_40 rfl rfl (Nat.le_of_ble_eq_true rfl) ?_
        refine nd_goto hC (tgt := 18) dX1_leastLikes_43 (by decide) ?_
        exact ih h3 (f2.trans f3) (hP2.ask f3 hT3)
    exact L1 0 (Nat.zero_le _) h0 ck_fr.rfl hP
  refine nd_aload_n hC dX1_leastLikes_0 rfl rfl ?_
  refine nd_callV (mm2 := mX1_guests) (As := []) (mc2 := 0) (ms2 := 0) (d2 := d - 1) hC rfl lkX1_280 ⟨rfl, lmX1_guests⟩ (hO) rfl (Nat.le_of_ble_eq_true rfl) (by omega) rfl (by exact Nat.le_of_ble_eq_true rfl) (by omega) (by omega) dX1_leastLikes_1 rfl ((cx_guests hg (by omega) hP ?_))
  first | with_reducible refine nd_if_neB hC (tgt := 11) dX1_leastLikes_4 (by decide) (fun hc => ?_) (fun hc => ?_) | with_reducible refine nd_if_neN hC (tgt := 11) (by omega) dX1_leastLikes_4 (by decide) (fun hc => ?_) (fun hc => ?_) | refine nd_if_ne hC (tgt := 11) dX1_leastLikes_4 (by decide) (fun hc => ?_) (fun hc => ?_)
  · refine nd_ldcwI hC q926 dX1_leastLikes_11 ?_
    refine nd_v_eq (y := .int (nI 1000000)) (by rfl) ?_
    exact J _ (by rw [if_neg hc])
  · refine nd_iconst hC (v := nI 0) (by rfl) dX1_leastLikes_7 ?_
    refine nd_goto hC (tgt := 14) dX1_leastLikes_8 (by decide) ?_
    exact J _ (by rw [if_pos hc])
theorem cq_soX22 (hg : nd_OK g) {m more : Nat} {folds : Int32} {x0 x1 x2 x3 x5 : Value} (hm : m ≤ 5) (hm2 : more ≤ 5) (hb : h[b]? = some (.inr (nX22, [x0, x1, x2, x3, .int (nI m), x5]))) (hk : K (.inl (some (.int (nd_b (decide (more = m)))))) h) : nd_M g mX22_isSo d 0 0 [.ref b, .ref L, .int (nI more), .int folds] h K := by
  refine nd_enter hg (by decide) rfl (Nat.le_of_ble_eq_true rfl) (fun X hC => ?_)
  refine nd_iload_n hC dX22_isSo_0 rfl ?_
  refine nd_aload_n hC dX22_isSo_1 rfl rfl ?_
  refine nd_get (ci := nX22) hC in_X22 rfl hb 4 (by decide) q2140 (fun _ z => z) rfl dX22_isSo_2 ?_
  first | with_reducible refine nd_icmp_neN hC (tgt := 12) (by omega) (by omega) dX22_isSo_5 (by decide) (fun hc => ?_) (fun hc => ?_) | refine nd_icmp_ne hC (tgt := 12) dX22_isSo_5 (by decide) (fun hc => ?_) (fun hc => ?_)
  · rw [decide_eq_false hc] at hk
    refine nd_iconst hC (v := nI 0) (by rfl) dX22_isSo_12 ?_
    refine nd_ireturn hC rfl (by first | rfl | exact nd_b_nar _) (by omega) (by omega) dX22_isSo_13 (hk)
  · rw [decide_eq_true hc] at hk
    refine nd_iconst hC (v := nI 1) (by rfl) dX22_isSo_8 ?_
    refine nd_goto hC (tgt := 13) dX22_isSo_9 (by decide) ?_
    refine nd_ireturn hC rfl (by first | rfl | exact nd_b_nar _) (by omega) (by omega) dX22_isSo_13 (hk)
theorem cq_soX24 (hg : nd_OK g) {folds : Int32} (hk : K (.inl (some (.int (nd_b true)))) h) : nd_M g mX24_isSo d 0 0 [.ref b, .ref L, .int folds] h K := by
  refine nd_enter hg (by decide) rfl (Nat.le_of_ble_eq_true rfl) (fun X hC => ?_)
  refine nd_iconst hC (v := nI 1) (by rfl) dX24_isSo_0 ?_
  refine nd_ireturn hC rfl (by first | rfl | exact nd_b_nar _) (by omega) (by omega) dX24_isSo_1 (hk)
theorem cq_soX35 (hg : nd_OK g) {folds : Int32} (hk : K (.inl (some (.int (nd_b true)))) h) : nd_M g mX35_isSo d 0 0 [.ref b, .ref L, .int folds] h K := by
  refine nd_enter hg (by decide) rfl (Nat.le_of_ble_eq_true rfl) (fun X hC => ?_)
  refine nd_iconst hC (v := nI 1) (by rfl) dX35_isSo_0 ?_
  refine nd_ireturn hC rfl (by first | rfl | exact nd_b_nar _) (by omega) (by omega) dX35_isSo_1 (hk)
theorem cq_soX27 (hg : nd_OK g) (hd : 911 ≤ d) (hP : cw_P o h0 nap N s) (hv : sv_ok (nk_n N) s) (hN : nk_ok N) (hl : ck_lk h0 L l) (hL9 : L + 9 ≤ 94 ∨ 95 ≤ L) (hok : lk_ok (nk_n N) l) {folds : Nat} {x0 x1 x2 x3 x4 x5 x6 : Value} (hb : h0[b]? = some (.inr (nX27, [x0, x1, x2, x3, x4, x5, x6, .ref 0]))) (hk : ∀ h2, ck_fr 94 1 h0 h2 → cw_P o h2 nap N s → K (.inl (some (.int (nd_b (nk_holds N (sv_fr s) (sv_bk s) l folds))))) h2) : nd_M g mX27_isSo d 0 0 [.ref b, .ref L, .int (nI folds)] h0 K := by
  obtain ⟨⟨tp, fkd, fat, x, hO⟩, -⟩ := id hP
  unfold cx_O at hO
  refine nd_enter hg (by decide) rfl (Nat.le_of_ble_eq_true rfl) (fun X hC => ?_)
  refine nd_aload_n hC dX27_isSo_0 rfl rfl ?_
  refine nd_get (ci := nX27) hC in_X27 rfl hb 7 (by decide) q2201 (fun _ z => z) rfl dX27_isSo_1 ?_
  refine nd_aload_n hC dX27_isSo_4 rfl rfl ?_
  refine nd_iload_n hC dX27_isSo_5 rfl ?_
  refine nd_callVN (mm2 := mX1_holds_2) (As := [_, _]) (mc2 := 0) (ms2 := 0) (d2 := d - 1) hC rfl q580 q149 q880 q579 qs8 lmX1_holds_2 (hO) rfl (Nat.le_of_ble_eq_true rfl) (by omega) rfl (by exact Nat.le_of_ble_eq_true rfl) (by omega) (by omega) dX27_isSo_6 rfl ((cx_holds2 hg (by omega) hP hv hN hl hL9 hok (fun h2 tl2 f2 hT2 => ?_)))
  refine nd_ireturn hC rfl (by first | rfl | exact nd_b_nar _) (by omega) (by omega) dX27_isSo_9 ((hk h2 f2 (hP.ask f2 hT2)))
theorem cq_soX28 (hg : nd_OK g) (hd : 911 ≤ d) (hP : cw_P o h0 nap N s) (hv : sv_ok (nk_n N) s) (hN : nk_ok N) (hl : ck_lk h0 L l) (hL9 : L + 9 ≤ 94 ∨ 95 ≤ L) (hok : lk_ok (nk_n N) l) {folds : Nat} {x0 x1 x2 x3 : Value} (hb : h0[b]? = some (.inr (nX28, [x0, x1, x2, x3, .ref 0]))) (hk : ∀ h2, ck_fr 94 1 h0 h2 → cw_P o h2 nap N s → K (.inl (some (.int (nd_b (nk_holds N (sv_fr s) (sv_bk s) l folds))))) h2) : nd_M g mX28_isSo d 0 0 [.ref b, .ref L, .int (nI folds)] h0 K := by
  obtain ⟨⟨tp, fkd, fat, x, hO⟩, -⟩ := id hP
  unfold cx_O at hO
  refine nd_enter hg (by decide) rfl (Nat.le_of_ble_eq_true rfl) (fun X hC => ?_)
  refine nd_aload_n hC dX28_isSo_0 rfl rfl ?_
  refine nd_get (ci := nX28) hC in_X28 rfl hb 4 (by decide) q2263 (fun _ z => z) rfl dX28_isSo_1 ?_
  refine nd_aload_n hC dX28_isSo_4 rfl rfl ?_
  refine nd_iload_n hC dX28_isSo_5 rfl ?_
  refine nd_callVN (mm2 := mX1_holds_2) (As := [_, _]) (mc2 := 0) (ms2 := 0) (d2 := d - 1) hC rfl q580 q149 q976 q579 qs8 lmX1_holds_2 (hO) rfl (Nat.le_of_ble_eq_true rfl) (by omega) rfl (by exact Nat.le_of_ble_eq_true rfl) (by omega) (by omega) dX28_isSo_6 rfl ((cx_holds2 hg (by omega) hP hv hN hl hL9 hok (fun h2 tl2 f2 hT2 => ?_)))
  refine nd_ireturn hC rfl (by first | rfl | exact nd_b_nar _) (by omega) (by omega) dX28_isSo_9 ((hk h2 f2 (hP.ask f2 hT2)))
theorem cq_valX29 (hg : nd_OK g) (hd : 912 ≤ d) (hP : cw_P o h0 nap N s) (hv : sv_ok (nk_n N) s) (hN : nk_ok N) (hl : ck_lk h0 L l) (hL9 : L + 9 ≤ 94 ∨ 95 ≤ L) (hok : lk_ok (nk_n N) l) {folds : Nat} {more : Int32} {x0 x1 x2 x3 x4 x5 : Value} (hb : h0[b]? = some (.inr (nX29, [x0, x1, x2, x3, x4, x5, .ref 0]))) (hk : ∀ h2, ck_fr 94 1 h0 h2 → cw_P o h2 nap N s → K (.inl (some (.long (nk_worth N (sv_fr s) (sv_bk s) l folds).toInt64))) h2) : nd_M g mX29_value d 0 0 [.ref b, .ref L, .int more, .int (nI folds)] h0 K := by
  obtain ⟨⟨tp, fkd, fat, x, hO⟩, -⟩ := id hP
  unfold cx_O at hO
  refine nd_enter hg (by decide) rfl (Nat.le_of_ble_eq_true rfl) (fun X hC => ?_)
  refine nd_aload_n hC dX29_value_0 rfl rfl ?_
  refine nd_get (ci := nX29) hC in_X29 rfl hb 6 (by decide) q775 (fun _ z => z) rfl dX29_value_1 ?_
  refine nd_aload_n hC dX29_value_4 rfl rfl ?_
  refine nd_iload_n hC dX29_value_5 rfl ?_
  refine nd_callVN (mm2 := mX1_worth_2) (As := [_, _]) (mc2 := 0) (ms2 := 0) (d2 := d - 1) hC rfl q482 q149 q953 q481 qs4 lmX1_worth_2 (hO) rfl (Nat.le_of_ble_eq_true rfl) (by omega) rfl (by exact Nat.le_of_ble_eq_true rfl) (by omega) (by omega) dX29_value_6 rfl ((cx_worth2 hg (by omega) hP hv hN hl hL9 hok (fun h2 tl2 f2 hT2 => ?_)))
  have R := hk h2 f2 (hP.ask f2 hT2)
  refine nd_i2l hC dX29_value_9 ?_
  refine nd_lreturn hC rfl (by omega) (by omega) dX29_value_10 (R)
theorem cq_valX36 (hg : nd_OK g) (hd : 912 ≤ d) (hP : cw_P o h0 nap N s) (hv : sv_ok (nk_n N) s) (hN : nk_ok N) (hl : ck_lk h0 L l) (hL9 : L + 9 ≤ 94 ∨ 95 ≤ L) (hok : lk_ok (nk_n N) l) {folds : Nat} {more : Int32} {x0 x1 x2 x3 x4 x5 : Value} (hb : h0[b]? = some (.inr (nX36, [x0, x1, x2, x3, x4, x5, .ref 0]))) (hk : ∀ h2, ck_fr 94 1 h0 h2 → cw_P o h2 nap N s → K (.inl (some (.long (nk_least N (sv_fr s) (sv_bk s) l folds (if (nk_w N).length = 0 then nI 0 else nI 1000000) (nk_w N).length).toInt64))) h2) : nd_M g mX36_value d 0 0 [.ref b, .ref L, .int more, .int (nI folds)] h0 K := by
  obtain ⟨⟨tp, fkd, fat, x, hO⟩, -⟩ := id hP
  unfold cx_O at hO
  refine nd_enter hg (by decide) rfl (Nat.le_of_ble_eq_true rfl) (fun X hC => ?_)
  refine nd_aload_n hC dX36_value_0 rfl rfl ?_
  refine nd_get (ci := nX36) hC in_X36 rfl hb 6 (by decide) q2418 (fun _ z => z) rfl dX36_value_1 ?_
  refine nd_aload_n hC dX36_value_4 rfl rfl ?_
  refine nd_iload_n hC dX36_value_5 rfl ?_
  refine nd_callVN (mm2 := mX1_leastLikes) (As := [_, _]) (mc2 := 0) (ms2 := 0) (d2 := d - 1) hC rfl q921 q149 q918 q920 qs19 lmX1_leastLikes (hO) rfl (Nat.le_of_ble_eq_true rfl) (by omega) rfl (by exact Nat.le_of_ble_eq_true rfl) (by omega) (by omega) dX36_value_6 rfl ((cx_leastLikes hg (by omega) hP hv hN hl hL9 hok (fun h2 f2 hP2 => ?_)))
  have R := hk h2 f2 hP2
  refine nd_i2l hC dX36_value_9 ?_
  refine nd_lreturn hC rfl (by omega) (by omega) dX36_value_10 (R)
theorem cq_valX38 (hg : nd_OK g) (hd : 912 ≤ d) (hP : cw_P o h0 nap N s) (hv : sv_ok (nk_n N) s) (hN : nk_ok N) (hl : ck_lk h0 L l) (hL9 : L + 9 ≤ 94 ∨ 95 ≤ L) (hok : lk_ok (nk_n N) l) {folds : Nat} {more : Int32} {gs : Nat} (hgs : gs < (nk_w N).length) {x0 x1 x2 x3 x4 x5 : Value} (hb : h0[b]? = some (.inr (nX38, [x0, x1, x2, x3, x4, x5, .int (nI gs), .ref 0]))) (hk : ∀ h2, ck_fr 94 1 h0 h2 → cw_P o h2 nap N s → K (.inl (some (.long (nk_likes N (sv_fr s) (sv_bk s) l folds gs).toInt64))) h2) : nd_M g mX38_value d 0 0 [.ref b, .ref L, .int more, .int (nI folds)] h0 K := by
  obtain ⟨⟨tp, fkd, fat, x, hO⟩, -⟩ := id hP
  unfold cx_O at hO
  refine nd_enter hg (by decide) rfl (Nat.le_of_ble_eq_true rfl) (fun X hC => ?_)
  refine nd_aload_n hC dX38_value_0 rfl rfl ?_
  refine nd_get (ci := nX38) hC in_X38 rfl hb 7 (by decide) q2470 (fun _ z => z) rfl dX38_value_1 ?_
  refine nd_aload_n hC dX38_value_4 rfl rfl ?_
  refine nd_get (ci := nX38) hC in_X38 rfl hb 6 (by decide) q2469 (fun _ z => z) rfl dX38_value_5 ?_
  refine nd_aload_n hC dX38_value_8 rfl rfl ?_
  refine nd_iload_n hC dX38_value_9 rfl ?_
  refine nd_callVN (mm2 := mX1_likes) (As := [_, _, _]) (mc2 := 0) (ms2 := 0) (d2 := d - 1) hC rfl q930 q149 q948 q929 qs21 lmX1_likes (hO) rfl (Nat.le_of_ble_eq_true rfl) (by omega) rfl (by exact Nat.le_of_ble_eq_true rfl) (by omega) (by omega) dX38_value_10 rfl ((cx_likes hg (by omega) hP hv hN hl hL9 hok hgs (fun h2 tl2 f2 hT2 => ?_)))
  have R := hk h2 f2 (hP.ask f2 hT2)
  refine nd_i2l hC dX38_value_13 ?_
  refine nd_lreturn hC rfl (by omega) (by omega) dX38_value_14 (R)
theorem cq_soX33 (hg : nd_OK g) (hd : 6 ≤ d) (hP : cw_P o h0 nap N s) (hN6 : nk_n N ≤ 6) (hl : ck_lk h0 L l) (hok : lk_ok (nk_n N) l) {more folds cd : Int32} {x0 x1 x2 x3 : Value} (hb : h0[b]? = some (.inr (nX33, [x0, x1, x2, x3, .int cd, .ref 0]))) (hk : K (.inl (some (.int (nd_b (decide (nI (lk_crs l (nk_n N - 1)) = cd)))))) h0) : nd_M g mX33_isSo d 0 0 [.ref b, .ref L, .int more, .int folds] h0 K := by
  obtain ⟨⟨tp, fkd, fat, x, hO⟩, -⟩ := id hP
  unfold cx_O at hO
  obtain ⟨w9, hi9, co9, hL, -, -⟩ := id hl
  refine nd_enter hg (by decide) rfl (Nat.le_of_ble_eq_true rfl) (fun X hC => ?_)
  refine nd_aload_n hC dX33_isSo_0 rfl rfl ?_
  refine nd_aload_n hC dX33_isSo_1 rfl rfl ?_
  refine nd_get (ci := nX33) hC in_X33 rfl hb 5 (by decide) q2367 (fun _ z => z) rfl dX33_isSo_2 ?_
  refine nd_callVN (mm2 := mX1_cells) (As := []) (mc2 := 0) (ms2 := 0) (d2 := d - 1) hC rfl q817 q149 q845 q816 qs16 lmX1_cells (hO) rfl (Nat.le_of_ble_eq_true rfl) (by omega) rfl (by exact Nat.le_of_ble_eq_true rfl) (by omega) (by omega) dX33_isSo_5 rfl ((cx_cells hg (by omega) hP ?_))
  refine nd_callV (mm2 := mX4_creases) (As := [_]) (mc2 := 0) (ms2 := 0) (d2 := d - 1) hC rfl lkX33_23 ⟨rfl, lmX4_creases⟩ (hL.1) rfl (Nat.le_of_ble_eq_true rfl) (by omega) rfl (by exact Nat.le_of_ble_eq_true rfl) (by omega) (by omega) dX33_isSo_8 rfl ((cl_creases hg (by omega) hl hok hN6 ?_))
  refine nd_aload_n hC dX33_isSo_11 rfl rfl ?_
  refine nd_get (ci := nX33) hC in_X33 rfl hb 4 (by decide) q2366 (fun _ z => z) rfl dX33_isSo_12 ?_
  refine nd_icmp_ne hC (tgt := 22) dX33_isSo_15 (by decide) (fun hc => ?_) (fun hc => ?_)
  · rw [decide_eq_false hc] at hk
    refine nd_iconst hC (v := nI 0) (by rfl) dX33_isSo_22 ?_
    refine nd_ireturn hC rfl (by first | rfl | exact nd_b_nar _) (by omega) (by omega) dX33_isSo_23 (hk)
  · rw [decide_eq_true hc] at hk
    refine nd_iconst hC (v := nI 1) (by rfl) dX33_isSo_18 ?_
    refine nd_goto hC (tgt := 23) dX33_isSo_19 (by decide) ?_
    refine nd_ireturn hC rfl (by first | rfl | exact nd_b_nar _) (by omega) (by omega) dX33_isSo_23 (hk)
theorem cq_soX34 (hg : nd_OK g) (hd : 6 ≤ d) (hP : cw_P o h0 nap N s) (hN6 : nk_n N ≤ 6) (hl : ck_lk h0 L l) (hok : lk_ok (nk_n N) l) {more folds cd : Int32} {x0 x1 x2 x3 x4 x5 x6 : Value} (hb : h0[b]? = some (.inr (nX34, [x0, x1, x2, x3, x4, x5, x6, .int cd, .ref 0]))) (hk : K (.inl (some (.int (nd_b (decide (nI (lk_crs l (nk_n N - 1)) = cd)))))) h0) : nd_M g mX34_isSo d 0 0 [.ref b, .ref L, .int folds] h0 K := by
  obtain ⟨⟨tp, fkd, fat, x, hO⟩, -⟩ := id hP
  unfold cx_O at hO
  obtain ⟨w9, hi9, co9, hL, -, -⟩ := id hl
  refine nd_enter hg (by decide) rfl (Nat.le_of_ble_eq_true rfl) (fun X hC => ?_)
  refine nd_aload_n hC dX34_isSo_0 rfl rfl ?_
  refine nd_aload_n hC dX34_isSo_1 rfl rfl ?_
  refine nd_get (ci := nX34) hC in_X34 rfl hb 8 (by decide) q2391 (fun _ z => z) rfl dX34_isSo_2 ?_
  refine nd_callVN (mm2 := mX1_cells) (As := []) (mc2 := 0) (ms2 := 0) (d2 := d - 1) hC rfl q817 q149 q875 q816 qs16 lmX1_cells (hO) rfl (Nat.le_of_ble_eq_true rfl) (by omega) rfl (by exact Nat.le_of_ble_eq_true rfl) (by omega) (by omega) dX34_isSo_5 rfl ((cx_cells hg (by omega) hP ?_))
  refine nd_callV (mm2 := mX4_creases) (As := [_]) (mc2 := 0) (ms2 := 0) (d2 := d - 1) hC rfl lkX34_23 ⟨rfl, lmX4_creases⟩ (hL.1) rfl (Nat.le_of_ble_eq_true rfl) (by omega) rfl (by exact Nat.le_of_ble_eq_true rfl) (by omega) (by omega) dX34_isSo_8 rfl ((cl_creases hg (by omega) hl hok hN6 ?_))
  refine nd_aload_n hC dX34_isSo_11 rfl rfl ?_
  refine nd_get (ci := nX34) hC in_X34 rfl hb 7 (by decide) q2390 (fun _ z => z) rfl dX34_isSo_12 ?_
  refine nd_icmp_ne hC (tgt := 22) dX34_isSo_15 (by decide) (fun hc => ?_) (fun hc => ?_)
  · rw [decide_eq_false hc] at hk
    refine nd_iconst hC (v := nI 0) (by rfl) dX34_isSo_22 ?_
    refine nd_ireturn hC rfl (by first | rfl | exact nd_b_nar _) (by omega) (by omega) dX34_isSo_23 (hk)
  · rw [decide_eq_true hc] at hk
    refine nd_iconst hC (v := nI 1) (by rfl) dX34_isSo_18 ?_
    refine nd_goto hC (tgt := 23) dX34_isSo_19 (by decide) ?_
    refine nd_ireturn hC rfl (by first | rfl | exact nd_b_nar _) (by omega) (by omega) dX34_isSo_23 (hk)
theorem cq_codeX35 (hg : nd_OK g) (hd : 6 ≤ d) (hP : cw_P o h0 nap N s) (hN6 : nk_n N ≤ 6) (hl : ck_lk h0 L l) (hok : lk_ok (nk_n N) l) {x0 x1 x2 x3 : Value} (hb : h0[b]? = some (.inr (nX35, [x0, x1, x2, x3, .ref 0]))) (hk : K (.inl (some (.long (nI (lk_crs l (nk_n N - 1))).toInt64))) h0) : nd_M g mX35_code d 0 0 [.ref b, .ref L] h0 K := by
  obtain ⟨⟨tp, fkd, fat, x, hO⟩, -⟩ := id hP
  unfold cx_O at hO
  obtain ⟨w9, hi9, co9, hL, -, -⟩ := id hl
  refine nd_enter hg (by decide) rfl (Nat.le_of_ble_eq_true rfl) (fun X hC => ?_)
  refine nd_aload_n hC dX35_code_0 rfl rfl ?_
  refine nd_aload_n hC dX35_code_1 rfl rfl ?_
  refine nd_get (ci := nX35) hC in_X35 rfl hb 4 (by decide) q1509 (fun _ z => z) rfl dX35_code_2 ?_
  refine nd_callVN (mm2 := mX1_cells) (As := []) (mc2 := 0) (ms2 := 0) (d2 := d - 1) hC rfl q817 q149 q986 q816 qs16 lmX1_cells (hO) rfl (Nat.le_of_ble_eq_true rfl) (by omega) rfl (by exact Nat.le_of_ble_eq_true rfl) (by omega) (by omega) dX35_code_5 rfl ((cx_cells hg (by omega) hP ?_))
  refine nd_callV (mm2 := mX4_creases) (As := [_]) (mc2 := 0) (ms2 := 0) (d2 := d - 1) hC rfl lkX35_19 ⟨rfl, lmX4_creases⟩ (hL.1) rfl (Nat.le_of_ble_eq_true rfl) (by omega) rfl (by exact Nat.le_of_ble_eq_true rfl) (by omega) (by omega) dX35_code_8 rfl ((cl_creases hg (by omega) hl hok hN6 ?_))
  refine nd_i2l hC dX35_code_11 ?_
  refine nd_lreturn hC rfl (by omega) (by omega) dX35_code_12 (hk)
theorem cq_codeX23 (hg : nd_OK g) (hd : 1 ≤ d) {n : Nat} (hl : ck_lk h L l) (hok : lk_ok n l) (hn : n ≤ 6) (hk : K (.inl (some (.long (lN (cd_all l l.length))))) h) : nd_M g mX23_code d 0 0 [.ref b, .ref L] h K := by
  obtain ⟨w9, hi9, co9, hL, -, -⟩ := id hl
  refine nd_enter hg (by decide) rfl (Nat.le_of_ble_eq_true rfl) (fun X hC => ?_)
  refine nd_aload_n hC dX23_code_0 rfl rfl ?_
  refine nd_callV (mm2 := mX4_code) (As := []) (mc2 := 0) (ms2 := 0) (d2 := d - 1) hC rfl lkX23_13 ⟨rfl, lmX4_code⟩ (hL.1) rfl (Nat.le_of_ble_eq_true rfl) (by omega) rfl (by exact Nat.le_of_ble_eq_true rfl) (by omega) (by omega) dX23_code_1 rfl ((cl_code hg hl hok hn ?_))
  refine nd_lreturn hC rfl (by omega) (by omega) dX23_code_4 (hk)
theorem cq_soX32 (hg : nd_OK g) {n : Nat} {folds : Int32} (hl : ck_lk h L l) (hok : lk_ok n l) (hn : n ≤ 6) (hk : K (.inl (some (.int (nd_b (decide (l.length ≤ 1)))))) h) : nd_M g mX32_isSo d 0 0 [.ref b, .ref L, .int folds] h K := by
  obtain ⟨w9, hi9, co9, hL, rfl, -⟩ := id hl
  have hwd := lk_width hok
  refine nd_enter hg (by decide) rfl (Nat.le_of_ble_eq_true rfl) (fun X hC => ?_)
  refine nd_aload_n hC dX32_isSo_0 rfl rfl ?_
  refine nd_getN (ci := nX4) hC in_X4 rfl hL.1 2 (by decide) q340 (fun _ z => z) rfl dX32_isSo_1 ?_
  refine nd_iconst hC (v := nI 1) (by rfl) dX32_isSo_4 ?_
  first | with_reducible refine nd_icmp_gtN hC (tgt := 12) (by omega) (by omega) dX32_isSo_5 (by decide) (fun hc => ?_) (fun hc => ?_) | refine nd_icmp_gt hC (tgt := 12) dX32_isSo_5 (by decide) (fun hc => ?_) (fun hc => ?_)
  · rw [decide_eq_false (by omega)] at hk
    refine nd_iconst hC (v := nI 0) (by rfl) dX32_isSo_12 ?_
    refine nd_ireturn hC rfl (by first | rfl | exact nd_b_nar _) (by omega) (by omega) dX32_isSo_13 (hk)
  · rw [decide_eq_true (by omega)] at hk
    refine nd_iconst hC (v := nI 1) (by rfl) dX32_isSo_8 ?_
    refine nd_goto hC (tgt := 13) dX32_isSo_9 (by decide) ?_
    refine nd_ireturn hC rfl (by first | rfl | exact nd_b_nar _) (by omega) (by omega) dX32_isSo_13 (hk)
end BO87

