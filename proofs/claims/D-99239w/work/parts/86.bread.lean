set_option maxRecDepth 100000
/-- the k-th fold of the best row -/
def be_fold (mo : Int64) (fw : Int32) (bf : Nat → Int32) (k : Nat) : Int32 := if mo = be_min then -1 else if nI k < fw then bf k else -1
def be_tell (mo : Int64) (fw : Int32) (bf : Nat → Int32) (what : Nat) : Int32 := if what = 0 then (if mo = be_min then -1 else fw) else be_fold mo fw bf (what - 10)
section BR86
variable {g : nd_G} {d : Nat} {K : nd_K} {h : nd_H}
theorem be_isNoneX27 (hg : nd_OK g) {b bb : Nat} {fw : Int32} {mo : Int64} {x3 x4 x5 x6 x7 : Value} (hb : h[b]? = some (.inr (nX27, [.ref bb, .int fw, .long mo, x3, x4, x5, x6, x7]))) (hk : K (.inl (some (.int (nd_b (decide (mo = be_min)))))) h) : nd_M g mX25_isNone d 0 0 [.ref b] h K := by
  refine nd_enter hg (by decide) rfl (Nat.le_of_ble_eq_true rfl) (fun X hC => ?_)
  refine nd_aload_n hC dX25_isNone_0 rfl rfl ?_
  refine nd_get (ci := nX27) hC in_X27 rfl hb 2 (by decide) q780 (fun _ z => z) rfl dX25_isNone_1 ?_
  refine nd_ldc2 hC q774 dX25_isNone_4 ?_
  refine nd_lcmp_ne hC (tgt := 15) dX25_isNone_7 dX25_isNone_8 (by decide) (fun hc => ?_) (fun hc => ?_)
  · rw [decide_eq_false (show ¬ mo = be_min from hc)] at hk
    refine nd_iconst hC (v := nI 0) (by rfl) dX25_isNone_15 ?_
    refine nd_ireturn hC rfl (by first | rfl | exact nd_b_nar _) (by omega) (by omega) dX25_isNone_16 (hk)
  · rw [decide_eq_true (show mo = be_min from hc)] at hk
    refine nd_iconst hC (v := nI 1) (by rfl) dX25_isNone_11 ?_
    refine nd_goto hC (tgt := 16) dX25_isNone_12 (by decide) ?_
    refine nd_ireturn hC rfl (by first | rfl | exact nd_b_nar _) (by omega) (by omega) dX25_isNone_16 (hk)
theorem be_foldX27 (hg : nd_OK g) (hd : 1 ≤ d) {b bb : Nat} {fw : Int32} {mo : Int64} {x3 x4 x5 x6 x7 : Value} {bf : Nat → Int32} {k : Nat} (hk9 : k < 2147483648) (hb : h[b]? = some (.inr (nX27, [.ref bb, .int fw, .long mo, x3, x4, x5, x6, x7]))) (hB : h[bb]? = some (.inl (0, 5, .inl bf))) (h5 : mo ≠ be_min → nI k < fw → k < 5) (hk : K (.inl (some (.int (be_fold mo fw bf k)))) h) : nd_M g mX25_fold d 0 0 [.ref b, .int (nI k)] h K := by
  unfold be_fold at hk
  refine nd_enter hg (by decide) rfl (Nat.le_of_ble_eq_true rfl) (fun X hC => ?_)
  refine nd_aload_n hC dX25_fold_0 rfl rfl ?_
  refine nd_callU (mm2 := mX25_isNone) (As := []) (mc2 := 0) (ms2 := 0) (d2 := d - 1) (owner := "NapkinDeeds$Best") (x := ⟨"NapkinDeeds$Best", "isNone", "()Z"⟩) (n := 0) hC rfl (va_cwU 0 hC.hts (lw_U q1033 q1035 q1039 q1034 q201 q1043) rfl rfl rfl rfl ⟨by decide, by decide, by decide +kernel⟩ (nd_roomR (by omega) (by decide))) hb rfl (by decide) (by omega) rfl (by exact Nat.le_of_ble_eq_true rfl) (by omega) (by omega) dX25_fold_1 rfl (be_isNoneX27 hg hb ?_)
  first | with_reducible refine nd_if_neB hC (tgt := 24) dX25_fold_4 (by decide) (fun hc => ?_) (fun hc => ?_) | with_reducible refine nd_if_neN hC (tgt := 24) (by omega) dX25_fold_4 (by decide) (fun hc => ?_) (fun hc => ?_) | refine nd_if_ne hC (tgt := 24) dX25_fold_4 (by decide) (fun hc => ?_) (fun hc => ?_)
  · rw [if_pos (of_decide_eq_true hc)] at hk
    refine nd_iconst hC (v := -1) rfl dX25_fold_24 ?_
    refine nd_ireturn hC rfl (by first | rfl | exact nd_b_nar _) (by omega) (by omega) dX25_fold_25 (hk)
  · have hc := of_decide_eq_false hc
    rw [if_neg hc] at hk
    refine nd_iload_n hC dX25_fold_7 rfl ?_
    refine nd_aload_n hC dX25_fold_8 rfl rfl ?_
    refine nd_get (ci := nX27) hC in_X27 rfl hb 1 (by decide) q777 (fun _ z => z) rfl dX25_fold_9 ?_
    refine nd_icmp_ge hC (tgt := 24) dX25_fold_12 (by decide) (fun hq => ?_) (fun hq => ?_)
    · rw [if_neg (Int32.not_lt.mpr hq)] at hk
      refine nd_iconst hC (v := -1) rfl dX25_fold_24 ?_
      refine nd_ireturn hC rfl (by first | rfl | exact nd_b_nar _) (by omega) (by omega) dX25_fold_25 (hk)
    · have hq := Int32.not_le.mp hq
      rw [if_pos hq] at hk
      have := h5 hc hq
      refine nd_aload_n hC dX25_fold_15 rfl rfl ?_
      refine nd_get (ci := nX27) hC in_X27 rfl hb 0 (by decide) q776 (fun _ z => z) rfl dX25_fold_16 ?_
      refine nd_iload_n hC dX25_fold_19 rfl ?_
      refine nd_ialoadN hC hB (by omega) (by omega) dX25_fold_20 ?_
      refine nd_goto hC (tgt := 25) dX25_fold_21 (by decide) ?_
      refine nd_ireturn hC rfl (by first | rfl | exact nd_b_nar _) (by omega) (by omega) dX25_fold_25 (hk)
theorem be_fewX27 (hg : nd_OK g) {b bb : Nat} {fw : Int32} {mo : Int64} {x3 x4 x5 x6 x7 : Value} (hb : h[b]? = some (.inr (nX27, [.ref bb, .int fw, .long mo, x3, x4, x5, x6, x7]))) (hk : K (.inl (some (.int fw))) h) : nd_M g mX26_fewestFolds d 0 0 [.ref b] h K := by
  refine nd_enter hg (by decide) rfl (Nat.le_of_ble_eq_true rfl) (fun X hC => ?_)
  refine nd_aload_n hC dX26_fewestFolds_0 rfl rfl ?_
  refine nd_getN (ci := nX27) hC in_X27 rfl hb 1 (by decide) q778 (fun _ z => z) rfl dX26_fewestFolds_1 ?_
  refine nd_ireturn hC rfl (by first | rfl | exact nd_b_nar _) (by omega) (by omega) dX26_fewestFolds_4 (hk)
theorem be_tellsX27 (hg : nd_OK g) (hd : 2 ≤ d) {b bb : Nat} {fw : Int32} {mo : Int64} {x3 x4 x5 x6 x7 : Value} {bf : Nat → Int32} {what : Nat} (hw : what = 0 ∨ 10 ≤ what ∧ what < 15) (hb : h[b]? = some (.inr (nX27, [.ref bb, .int fw, .long mo, x3, x4, x5, x6, x7]))) (hB : h[bb]? = some (.inl (0, 5, .inl bf))) (hk : K (.inl (some (.int (be_tell mo fw bf what)))) h) : nd_M g mX26_tells d 0 0 [.ref b, .int (nI what)] h K := by
  unfold be_tell at hk
  refine nd_enter hg (by decide) rfl (Nat.le_of_ble_eq_true rfl) (fun X hC => ?_)
  refine nd_iload_n hC dX26_tells_0 rfl ?_
  first | with_reducible refine nd_if_neB hC (tgt := 22) dX26_tells_1 (by decide) (fun hc => ?_) (fun hc => ?_) | with_reducible refine nd_if_neN hC (tgt := 22) (by omega) dX26_tells_1 (by decide) (fun hc => ?_) (fun hc => ?_) | refine nd_if_ne hC (tgt := 22) dX26_tells_1 (by decide) (fun hc => ?_) (fun hc => ?_)
  · rw [if_neg hc] at hk
    refine nd_aload_n hC dX26_tells_22 rfl rfl ?_
    refine nd_iload_n hC dX26_tells_23 rfl ?_
    refine nd_bipush hC (v := nI 10) (by rfl) dX26_tells_24 ?_
    first | with_reducible refine nd_isubN hC (by omega) dX26_tells_26 ?_ | refine nd_isub hC dX26_tells_26 ?_
    refine nd_callU (mm2 := mX25_fold) (As := [_]) (mc2 := 0) (ms2 := 0) (d2 := d - 1) (owner := "NapkinDeeds$Best") (x := ⟨"NapkinDeeds$Fewest", "fold", "(I)I"⟩) (n := 1) hC rfl (va_cwU 1 hC.hts (lw_U q2243 q2244 q2247 q1023 q201 q1032) rfl rfl rfl rfl ⟨by decide, by decide, by decide +kernel⟩ (nd_roomR (by omega) (by decide))) hb rfl (by decide) (by omega) rfl (by exact Nat.le_of_ble_eq_true rfl) (by omega) (by omega) dX26_tells_27 rfl (be_foldX27 hg (by omega) (by omega) hb hB (fun _ _ => by omega) ?_)
    refine nd_ireturn hC rfl (by first | rfl | exact nd_b_nar _) (by omega) (by omega) dX26_tells_30 (hk)
  · rw [if_pos hc] at hk
    refine nd_aload_n hC dX26_tells_4 rfl rfl ?_
    refine nd_callU (mm2 := mX25_isNone) (As := []) (mc2 := 0) (ms2 := 0) (d2 := d - 1) (owner := "NapkinDeeds$Best") (x := ⟨"NapkinDeeds$Fewest", "isNone", "()Z"⟩) (n := 0) hC rfl (va_cwU 0 hC.hts (lw_U q2228 q2229 q2232 q1034 q201 q1043) rfl rfl rfl rfl ⟨by decide, by decide, by decide +kernel⟩ (nd_roomR (by omega) (by decide))) hb rfl (by decide) (by omega) rfl (by exact Nat.le_of_ble_eq_true rfl) (by omega) (by omega) dX26_tells_5 rfl (be_isNoneX27 hg hb ?_)
    first | with_reducible refine nd_if_eqB hC (tgt := 15) dX26_tells_8 (by decide) (fun hq => ?_) (fun hq => ?_) | with_reducible refine nd_if_eqN hC (tgt := 15) (by omega) dX26_tells_8 (by decide) (fun hq => ?_) (fun hq => ?_) | refine nd_if_eq hC (tgt := 15) dX26_tells_8 (by decide) (fun hq => ?_) (fun hq => ?_)
    · rw [if_neg (of_decide_eq_false hq)] at hk
      refine nd_aload_n hC dX26_tells_15 rfl rfl ?_
      refine nd_callU (mm2 := mX26_fewestFolds) (As := []) (mc2 := 0) (ms2 := 0) (d2 := d - 1) (owner := "NapkinDeeds$Fewest") (x := ⟨"NapkinDeeds$Fewest", "fewestFolds", "()I"⟩) (n := 0) hC rfl (va_cwU 0 hC.hts (lw_U q2235 q2237 q2239 q2236 q202 q2242) rfl rfl rfl rfl ⟨by decide, by decide, by decide +kernel⟩ (nd_roomR (by omega) (by decide))) hb rfl (by decide) (by omega) rfl (by exact Nat.le_of_ble_eq_true rfl) (by omega) (by omega) dX26_tells_16 rfl (be_fewX27 hg hb ?_)
      refine nd_goto hC (tgt := 30) dX26_tells_19 (by decide) ?_
      refine nd_ireturn hC rfl (by first | rfl | exact nd_b_nar _) (by omega) (by omega) dX26_tells_30 (hk)
    · rw [if_pos (of_decide_eq_true hq)] at hk
      refine nd_iconst hC (v := -1) rfl dX26_tells_11 ?_
      refine nd_goto hC (tgt := 30) dX26_tells_12 (by decide) ?_
      refine nd_ireturn hC rfl (by first | rfl | exact nd_b_nar _) (by omega) (by omega) dX26_tells_30 (hk)
theorem be_isNoneX30 (hg : nd_OK g) {b bb : Nat} {fw : Int32} {mo : Int64} {x3 x4 x5 x6 x7 x8 : Value} (hb : h[b]? = some (.inr (nX30, [.ref bb, .int fw, .long mo, x3, x4, x5, x6, x7, x8]))) (hk : K (.inl (some (.int (nd_b (decide (mo = be_min)))))) h) : nd_M g mX25_isNone d 0 0 [.ref b] h K := by
  refine nd_enter hg (by decide) rfl (Nat.le_of_ble_eq_true rfl) (fun X hC => ?_)
  refine nd_aload_n hC dX25_isNone_0 rfl rfl ?_
  refine nd_get (ci := nX30) hC in_X30 rfl hb 2 (by decide) q780 (fun _ z => z) rfl dX25_isNone_1 ?_
  refine nd_ldc2 hC q774 dX25_isNone_4 ?_
  refine nd_lcmp_ne hC (tgt := 15) dX25_isNone_7 dX25_isNone_8 (by decide) (fun hc => ?_) (fun hc => ?_)
  · rw [decide_eq_false (show ¬ mo = be_min from hc)] at hk
    refine nd_iconst hC (v := nI 0) (by rfl) dX25_isNone_15 ?_
    refine nd_ireturn hC rfl (by first | rfl | exact nd_b_nar _) (by omega) (by omega) dX25_isNone_16 (hk)
  · rw [decide_eq_true (show mo = be_min from hc)] at hk
    refine nd_iconst hC (v := nI 1) (by rfl) dX25_isNone_11 ?_
    refine nd_goto hC (tgt := 16) dX25_isNone_12 (by decide) ?_
    refine nd_ireturn hC rfl (by first | rfl | exact nd_b_nar _) (by omega) (by omega) dX25_isNone_16 (hk)
theorem be_foldX30 (hg : nd_OK g) (hd : 1 ≤ d) {b bb : Nat} {fw : Int32} {mo : Int64} {x3 x4 x5 x6 x7 x8 : Value} {bf : Nat → Int32} {k : Nat} (hk9 : k < 2147483648) (hb : h[b]? = some (.inr (nX30, [.ref bb, .int fw, .long mo, x3, x4, x5, x6, x7, x8]))) (hB : h[bb]? = some (.inl (0, 5, .inl bf))) (h5 : mo ≠ be_min → nI k < fw → k < 5) (hk : K (.inl (some (.int (be_fold mo fw bf k)))) h) : nd_M g mX25_fold d 0 0 [.ref b, .int (nI k)] h K := by
  unfold be_fold at hk
  refine nd_enter hg (by decide) rfl (Nat.le_of_ble_eq_true rfl) (fun X hC => ?_)
  refine nd_aload_n hC dX25_fold_0 rfl rfl ?_
  refine nd_callU (mm2 := mX25_isNone) (As := []) (mc2 := 0) (ms2 := 0) (d2 := d - 1) (owner := "NapkinDeeds$Best") (x := ⟨"NapkinDeeds$Best", "isNone", "()Z"⟩) (n := 0) hC rfl (va_cwU 0 hC.hts (lw_U q1033 q1035 q1041 q1034 q201 q1043) rfl rfl rfl rfl ⟨by decide, by decide, by decide +kernel⟩ (nd_roomR (by omega) (by decide))) hb rfl (by decide) (by omega) rfl (by exact Nat.le_of_ble_eq_true rfl) (by omega) (by omega) dX25_fold_1 rfl (be_isNoneX30 hg hb ?_)
  first | with_reducible refine nd_if_neB hC (tgt := 24) dX25_fold_4 (by decide) (fun hc => ?_) (fun hc => ?_) | with_reducible refine nd_if_neN hC (tgt := 24) (by omega) dX25_fold_4 (by decide) (fun hc => ?_) (fun hc => ?_) | refine nd_if_ne hC (tgt := 24) dX25_fold_4 (by decide) (fun hc => ?_) (fun hc => ?_)
  · rw [if_pos (of_decide_eq_true hc)] at hk
    refine nd_iconst hC (v := -1) rfl dX25_fold_24 ?_
    refine nd_ireturn hC rfl (by first | rfl | exact nd_b_nar _) (by omega) (by omega) dX25_fold_25 (hk)
  · have hc := of_decide_eq_false hc
    rw [if_neg hc] at hk
    refine nd_iload_n hC dX25_fold_7 rfl ?_
    refine nd_aload_n hC dX25_fold_8 rfl rfl ?_
    refine nd_get (ci := nX30) hC in_X30 rfl hb 1 (by decide) q777 (fun _ z => z) rfl dX25_fold_9 ?_
    refine nd_icmp_ge hC (tgt := 24) dX25_fold_12 (by decide) (fun hq => ?_) (fun hq => ?_)
    · rw [if_neg (Int32.not_lt.mpr hq)] at hk
      refine nd_iconst hC (v := -1) rfl dX25_fold_24 ?_
      refine nd_ireturn hC rfl (by first | rfl | exact nd_b_nar _) (by omega) (by omega) dX25_fold_25 (hk)
    · have hq := Int32.not_le.mp hq
      rw [if_pos hq] at hk
      have := h5 hc hq
      refine nd_aload_n hC dX25_fold_15 rfl rfl ?_
      refine nd_get (ci := nX30) hC in_X30 rfl hb 0 (by decide) q776 (fun _ z => z) rfl dX25_fold_16 ?_
      refine nd_iload_n hC dX25_fold_19 rfl ?_
      refine nd_ialoadN hC hB (by omega) (by omega) dX25_fold_20 ?_
      refine nd_goto hC (tgt := 25) dX25_fold_21 (by decide) ?_
      refine nd_ireturn hC rfl (by first | rfl | exact nd_b_nar _) (by omega) (by omega) dX25_fold_25 (hk)
theorem be_fewX30 (hg : nd_OK g) {b bb : Nat} {fw : Int32} {mo : Int64} {x3 x4 x5 x6 x7 x8 : Value} (hb : h[b]? = some (.inr (nX30, [.ref bb, .int fw, .long mo, x3, x4, x5, x6, x7, x8]))) (hk : K (.inl (some (.int fw))) h) : nd_M g mX26_fewestFolds d 0 0 [.ref b] h K := by
  refine nd_enter hg (by decide) rfl (Nat.le_of_ble_eq_true rfl) (fun X hC => ?_)
  refine nd_aload_n hC dX26_fewestFolds_0 rfl rfl ?_
  refine nd_getN (ci := nX30) hC in_X30 rfl hb 1 (by decide) q778 (fun _ z => z) rfl dX26_fewestFolds_1 ?_
  refine nd_ireturn hC rfl (by first | rfl | exact nd_b_nar _) (by omega) (by omega) dX26_fewestFolds_4 (hk)
theorem be_tellsX30 (hg : nd_OK g) (hd : 2 ≤ d) {b bb : Nat} {fw : Int32} {mo : Int64} {x3 x4 x5 x6 x7 x8 : Value} {bf : Nat → Int32} {what : Nat} (hw : what = 0 ∨ 10 ≤ what ∧ what < 15) (hb : h[b]? = some (.inr (nX30, [.ref bb, .int fw, .long mo, x3, x4, x5, x6, x7, x8]))) (hB : h[bb]? = some (.inl (0, 5, .inl bf))) (hk : K (.inl (some (.int (be_tell mo fw bf what)))) h) : nd_M g mX26_tells d 0 0 [.ref b, .int (nI what)] h K := by
  unfold be_tell at hk
  refine nd_enter hg (by decide) rfl (Nat.le_of_ble_eq_true rfl) (fun X hC => ?_)
  refine nd_iload_n hC dX26_tells_0 rfl ?_
  first | with_reducible refine nd_if_neB hC (tgt := 22) dX26_tells_1 (by decide) (fun hc => ?_) (fun hc => ?_) | with_reducible refine nd_if_neN hC (tgt := 22) (by omega) dX26_tells_1 (by decide) (fun hc => ?_) (fun hc => ?_) | refine nd_if_ne hC (tgt := 22) dX26_tells_1 (by decide) (fun hc => ?_) (fun hc => ?_)
  · rw [if_neg hc] at hk
    refine nd_aload_n hC dX26_tells_22 rfl rfl ?_
    refine nd_iload_n hC dX26_tells_23 rfl ?_
    refine nd_bipush hC (v := nI 10) (by rfl) dX26_tells_24 ?_
    first | with_reducible refine nd_isubN hC (by omega) dX26_tells_26 ?_ | refine nd_isub hC dX26_tells_26 ?_
    refine nd_callU (mm2 := mX25_fold) (As := [_]) (mc2 := 0) (ms2 := 0) (d2 := d - 1) (owner := "NapkinDeeds$Best") (x := ⟨"NapkinDeeds$Fewest", "fold", "(I)I"⟩) (n := 1) hC rfl (va_cwU 1 hC.hts (lw_U q2243 q2244 q2248 q1023 q201 q1032) rfl rfl rfl rfl ⟨by decide, by decide, by decide +kernel⟩ (nd_roomR (by omega) (by decide))) hb rfl (by decide) (by omega) rfl (by exact Nat.le_of_ble_eq_true rfl) (by omega) (by omega) dX26_tells_27 rfl (be_foldX30 hg (by omega) (by omega) hb hB (fun _ _ => by omega) ?_)
    refine nd_ireturn hC rfl (by first | rfl | exact nd_b_nar _) (by omega) (by omega) dX26_tells_30 (hk)
  · rw [if_pos hc] at hk
    refine nd_aload_n hC dX26_tells_4 rfl rfl ?_
    refine nd_callU (mm2 := mX25_isNone) (As := []) (mc2 := 0) (ms2 := 0) (d2 := d - 1) (owner := "NapkinDeeds$Best") (x := ⟨"NapkinDeeds$Fewest", "isNone", "()Z"⟩) (n := 0) hC rfl (va_cwU 0 hC.hts (lw_U q2228 q2229 q2233 q1034 q201 q1043) rfl rfl rfl rfl ⟨by decide, by decide, by decide +kernel⟩ (nd_roomR (by omega) (by decide))) hb rfl (by decide) (by omega) rfl (by exact Nat.le_of_ble_eq_true rfl) (by omega) (by omega) dX26_tells_5 rfl (be_isNoneX30 hg hb ?_)
    first | with_reducible refine nd_if_eqB hC (tgt := 15) dX26_tells_8 (by decide) (fun hq => ?_) (fun hq => ?_) | with_reducible refine nd_if_eqN hC (tgt := 15) (by omega) dX26_tells_8 (by decide) (fun hq => ?_) (fun hq => ?_) | refine nd_if_eq hC (tgt := 15) dX26_tells_8 (by decide) (fun hq => ?_) (fun hq => ?_)
    · rw [if_neg (of_decide_eq_false hq)] at hk
      refine nd_aload_n hC dX26_tells_15 rfl rfl ?_
      refine nd_callU (mm2 := mX26_fewestFolds) (As := []) (mc2 := 0) (ms2 := 0) (d2 := d - 1) (owner := "NapkinDeeds$Fewest") (x := ⟨"NapkinDeeds$Fewest", "fewestFolds", "()I"⟩) (n := 0) hC rfl (va_cwU 0 hC.hts (lw_U q2235 q2237 q2240 q2236 q202 q2242) rfl rfl rfl rfl ⟨by decide, by decide, by decide +kernel⟩ (nd_roomR (by omega) (by decide))) hb rfl (by decide) (by omega) rfl (by exact Nat.le_of_ble_eq_true rfl) (by omega) (by omega) dX26_tells_16 rfl (be_fewX30 hg hb ?_)
      refine nd_goto hC (tgt := 30) dX26_tells_19 (by decide) ?_
      refine nd_ireturn hC rfl (by first | rfl | exact nd_b_nar _) (by omega) (by omega) dX26_tells_30 (hk)
    · rw [if_pos (of_decide_eq_true hq)] at hk
      refine nd_iconst hC (v := -1) rfl dX26_tells_11 ?_
      refine nd_goto hC (tgt := 30) dX26_tells_12 (by decide) ?_
      refine nd_ireturn hC rfl (by first | rfl | exact nd_b_nar _) (by omega) (by omega) dX26_tells_30 (hk)
theorem be_isNoneX31 (hg : nd_OK g) {b bb : Nat} {fw : Int32} {mo : Int64} {x3 x4 x5 x6 x7 x8 : Value} (hb : h[b]? = some (.inr (nX31, [.ref bb, .int fw, .long mo, x3, x4, x5, x6, x7, x8]))) (hk : K (.inl (some (.int (nd_b (decide (mo = be_min)))))) h) : nd_M g mX25_isNone d 0 0 [.ref b] h K := by
  refine nd_enter hg (by decide) rfl (Nat.le_of_ble_eq_true rfl) (fun X hC => ?_)
  refine nd_aload_n hC dX25_isNone_0 rfl rfl ?_
  refine nd_get (ci := nX31) hC in_X31 rfl hb 2 (by decide) q780 (fun _ z => z) rfl dX25_isNone_1 ?_
  refine nd_ldc2 hC q774 dX25_isNone_4 ?_
  refine nd_lcmp_ne hC (tgt := 15) dX25_isNone_7 dX25_isNone_8 (by decide) (fun hc => ?_) (fun hc => ?_)
  · rw [decide_eq_false (show ¬ mo = be_min from hc)] at hk
    refine nd_iconst hC (v := nI 0) (by rfl) dX25_isNone_15 ?_
    refine nd_ireturn hC rfl (by first | rfl | exact nd_b_nar _) (by omega) (by omega) dX25_isNone_16 (hk)
  · rw [decide_eq_true (show mo = be_min from hc)] at hk
    refine nd_iconst hC (v := nI 1) (by rfl) dX25_isNone_11 ?_
    refine nd_goto hC (tgt := 16) dX25_isNone_12 (by decide) ?_
    refine nd_ireturn hC rfl (by first | rfl | exact nd_b_nar _) (by omega) (by omega) dX25_isNone_16 (hk)
theorem be_foldX31 (hg : nd_OK g) (hd : 1 ≤ d) {b bb : Nat} {fw : Int32} {mo : Int64} {x3 x4 x5 x6 x7 x8 : Value} {bf : Nat → Int32} {k : Nat} (hk9 : k < 2147483648) (hb : h[b]? = some (.inr (nX31, [.ref bb, .int fw, .long mo, x3, x4, x5, x6, x7, x8]))) (hB : h[bb]? = some (.inl (0, 5, .inl bf))) (h5 : mo ≠ be_min → nI k < fw → k < 5) (hk : K (.inl (some (.int (be_fold mo fw bf k)))) h) : nd_M g mX25_fold d 0 0 [.ref b, .int (nI k)] h K := by
  unfold be_fold at hk
  refine nd_enter hg (by decide) rfl (Nat.le_of_ble_eq_true rfl) (fun X hC => ?_)
  refine nd_aload_n hC dX25_fold_0 rfl rfl ?_
  refine nd_callU (mm2 := mX25_isNone) (As := []) (mc2 := 0) (ms2 := 0) (d2 := d - 1) (owner := "NapkinDeeds$Best") (x := ⟨"NapkinDeeds$Best", "isNone", "()Z"⟩) (n := 0) hC rfl (va_cwU 0 hC.hts (lw_U q1033 q1035 q1042 q1034 q201 q1043) rfl rfl rfl rfl ⟨by decide, by decide, by decide +kernel⟩ (nd_roomR (by omega) (by decide))) hb rfl (by decide) (by omega) rfl (by exact Nat.le_of_ble_eq_true rfl) (by omega) (by omega) dX25_fold_1 rfl (be_isNoneX31 hg hb ?_)
  first | with_reducible refine nd_if_neB hC (tgt := 24) dX25_fold_4 (by decide) (fun hc => ?_) (fun hc => ?_) | with_reducible refine nd_if_neN hC (tgt := 24) (by omega) dX25_fold_4 (by decide) (fun hc => ?_) (fun hc => ?_) | refine nd_if_ne hC (tgt := 24) dX25_fold_4 (by decide) (fun hc => ?_) (fun hc => ?_)
  · rw [if_pos (of_decide_eq_true hc)] at hk
    refine nd_iconst hC (v := -1) rfl dX25_fold_24 ?_
    refine nd_ireturn hC rfl (by first | rfl | exact nd_b_nar _) (by omega) (by omega) dX25_fold_25 (hk)
  · have hc := of_decide_eq_false hc
    rw [if_neg hc] at hk
    refine nd_iload_n hC dX25_fold_7 rfl ?_
    refine nd_aload_n hC dX25_fold_8 rfl rfl ?_
    refine nd_get (ci := nX31) hC in_X31 rfl hb 1 (by decide) q777 (fun _ z => z) rfl dX25_fold_9 ?_
    refine nd_icmp_ge hC (tgt := 24) dX25_fold_12 (by decide) (fun hq => ?_) (fun hq => ?_)
    · rw [if_neg (Int32.not_lt.mpr hq)] at hk
      refine nd_iconst hC (v := -1) rfl dX25_fold_24 ?_
      refine nd_ireturn hC rfl (by first | rfl | exact nd_b_nar _) (by omega) (by omega) dX25_fold_25 (hk)
    · have hq := Int32.not_le.mp hq
      rw [if_pos hq] at hk
      have := h5 hc hq
      refine nd_aload_n hC dX25_fold_15 rfl rfl ?_
      refine nd_get (ci := nX31) hC in_X31 rfl hb 0 (by decide) q776 (fun _ z => z) rfl dX25_fold_16 ?_
      refine nd_iload_n hC dX25_fold_19 rfl ?_
      refine nd_ialoadN hC hB (by omega) (by omega) dX25_fold_20 ?_
      refine nd_goto hC (tgt := 25) dX25_fold_21 (by decide) ?_
      refine nd_ireturn hC rfl (by first | rfl | exact nd_b_nar _) (by omega) (by omega) dX25_fold_25 (hk)
theorem be_fewX31 (hg : nd_OK g) {b bb : Nat} {fw : Int32} {mo : Int64} {x3 x4 x5 x6 x7 x8 : Value} (hb : h[b]? = some (.inr (nX31, [.ref bb, .int fw, .long mo, x3, x4, x5, x6, x7, x8]))) (hk : K (.inl (some (.int fw))) h) : nd_M g mX26_fewestFolds d 0 0 [.ref b] h K := by
  refine nd_enter hg (by decide) rfl (Nat.le_of_ble_eq_true rfl) (fun X hC => ?_)
  refine nd_aload_n hC dX26_fewestFolds_0 rfl rfl ?_
  refine nd_getN (ci := nX31) hC in_X31 rfl hb 1 (by decide) q778 (fun _ z => z) rfl dX26_fewestFolds_1 ?_
  refine nd_ireturn hC rfl (by first | rfl | exact nd_b_nar _) (by omega) (by omega) dX26_fewestFolds_4 (hk)
theorem be_tellsX31 (hg : nd_OK g) (hd : 2 ≤ d) {b bb : Nat} {fw : Int32} {mo : Int64} {x3 x4 x5 x6 x7 x8 : Value} {bf : Nat → Int32} {what : Nat} (hw : what = 0 ∨ 10 ≤ what ∧ what < 15) (hb : h[b]? = some (.inr (nX31, [.ref bb, .int fw, .long mo, x3, x4, x5, x6, x7, x8]))) (hB : h[bb]? = some (.inl (0, 5, .inl bf))) (hk : K (.inl (some (.int (be_tell mo fw bf what)))) h) : nd_M g mX26_tells d 0 0 [.ref b, .int (nI what)] h K := by
  unfold be_tell at hk
  refine nd_enter hg (by decide) rfl (Nat.le_of_ble_eq_true rfl) (fun X hC => ?_)
  refine nd_iload_n hC dX26_tells_0 rfl ?_
  first | with_reducible refine nd_if_neB hC (tgt := 22) dX26_tells_1 (by decide) (fun hc => ?_) (fun hc => ?_) | with_reducible refine nd_if_neN hC (tgt := 22) (by omega) dX26_tells_1 (by decide) (fun hc => ?_) (fun hc => ?_) | refine nd_if_ne hC (tgt := 22) dX26_tells_1 (by decide) (fun hc => ?_) (fun hc => ?_)
  · rw [if_neg hc] at hk
    refine nd_aload_n hC dX26_tells_22 rfl rfl ?_
    refine nd_iload_n hC dX26_tells_23 rfl ?_
    refine nd_bipush hC (v := nI 10) (by rfl) dX26_tells_24 ?_
    first | with_reducible refine nd_isubN hC (by omega) dX26_tells_26 ?_ | refine nd_isub hC dX26_tells_26 ?_
    refine nd_callU (mm2 := mX25_fold) (As := [_]) (mc2 := 0) (ms2 := 0) (d2 := d - 1) (owner := "NapkinDeeds$Best") (x := ⟨"NapkinDeeds$Fewest", "fold", "(I)I"⟩) (n := 1) hC rfl (va_cwU 1 hC.hts (lw_U q2243 q2244 q2249 q1023 q201 q1032) rfl rfl rfl rfl ⟨by decide, by decide, by decide +kernel⟩ (nd_roomR (by omega) (by decide))) hb rfl (by decide) (by omega) rfl (by exact Nat.le_of_ble_eq_true rfl) (by omega) (by omega) dX26_tells_27 rfl (be_foldX31 hg (by omega) (by omega) hb hB (fun _ _ => by omega) ?_)
    refine nd_ireturn hC rfl (by first | rfl | exact nd_b_nar _) (by omega) (by omega) dX26_tells_30 (hk)
  · rw [if_pos hc] at hk
    refine nd_aload_n hC dX26_tells_4 rfl rfl ?_
    refine nd_callU (mm2 := mX25_isNone) (As := []) (mc2 := 0) (ms2 := 0) (d2 := d - 1) (owner := "NapkinDeeds$Best") (x := ⟨"NapkinDeeds$Fewest", "isNone", "()Z"⟩) (n := 0) hC rfl (va_cwU 0 hC.hts (lw_U q2228 q2229 q2234 q1034 q201 q1043) rfl rfl rfl rfl ⟨by decide, by decide, by decide +kernel⟩ (nd_roomR (by omega) (by decide))) hb rfl (by decide) (by omega) rfl (by exact Nat.le_of_ble_eq_true rfl) (by omega) (by omega) dX26_tells_5 rfl (be_isNoneX31 hg hb ?_)
    first | with_reducible refine nd_if_eqB hC (tgt := 15) dX26_tells_8 (by decide) (fun hq => ?_) (fun hq => ?_) | with_reducible refine nd_if_eqN hC (tgt := 15) (by omega) dX26_tells_8 (by decide) (fun hq => ?_) (fun hq => ?_) | refine nd_if_eq hC (tgt := 15) dX26_tells_8 (by decide) (fun hq => ?_) (fun hq => ?_)
    · rw [if_neg (of_decide_eq_false hq)] at hk
      refine nd_aload_n hC dX26_tells_15 rfl rfl ?_
      refine nd_callU (mm2 := mX26_fewestFolds) (As := []) (mc2 := 0) (ms2 := 0) (d2 := d - 1) (owner := "NapkinDeeds$Fewest") (x := ⟨"NapkinDeeds$Fewest", "fewestFolds", "()I"⟩) (n := 0) hC rfl (va_cwU 0 hC.hts (lw_U q2235 q2237 q2241 q2236 q202 q2242) rfl rfl rfl rfl ⟨by decide, by decide, by decide +kernel⟩ (nd_roomR (by omega) (by decide))) hb rfl (by decide) (by omega) rfl (by exact Nat.le_of_ble_eq_true rfl) (by omega) (by omega) dX26_tells_16 rfl (be_fewX31 hg hb ?_)
      refine nd_goto hC (tgt := 30) dX26_tells_19 (by decide) ?_
      refine nd_ireturn hC rfl (by first | rfl | exact nd_b_nar _) (by omega) (by omega) dX26_tells_30 (hk)
    · rw [if_pos (of_decide_eq_true hq)] at hk
      refine nd_iconst hC (v := -1) rfl dX26_tells_11 ?_
      refine nd_goto hC (tgt := 30) dX26_tells_12 (by decide) ?_
      refine nd_ireturn hC rfl (by first | rfl | exact nd_b_nar _) (by omega) (by omega) dX26_tells_30 (hk)
theorem be_isNoneX34 (hg : nd_OK g) {b bb : Nat} {fw : Int32} {mo : Int64} {x3 x4 x5 x6 x7 x8 : Value} (hb : h[b]? = some (.inr (nX34, [.ref bb, .int fw, .long mo, x3, x4, x5, x6, x7, x8]))) (hk : K (.inl (some (.int (nd_b (decide (mo = be_min)))))) h) : nd_M g mX25_isNone d 0 0 [.ref b] h K := by
  refine nd_enter hg (by decide) rfl (Nat.le_of_ble_eq_true rfl) (fun X hC => ?_)
  refine nd_aload_n hC dX25_isNone_0 rfl rfl ?_
  refine nd_get (ci := nX34) hC in_X34 rfl hb 2 (by decide) q780 (fun _ z => z) rfl dX25_isNone_1 ?_
  refine nd_ldc2 hC q774 dX25_isNone_4 ?_
  refine nd_lcmp_ne hC (tgt := 15) dX25_isNone_7 dX25_isNone_8 (by decide) (fun hc => ?_) (fun hc => ?_)
  · rw [decide_eq_false (show ¬ mo = be_min from hc)] at hk
    refine nd_iconst hC (v := nI 0) (by rfl) dX25_isNone_15 ?_
    refine nd_ireturn hC rfl (by first | rfl | exact nd_b_nar _) (by omega) (by omega) dX25_isNone_16 (hk)
  · rw [decide_eq_true (show mo = be_min from hc)] at hk
    refine nd_iconst hC (v := nI 1) (by rfl) dX25_isNone_11 ?_
    refine nd_goto hC (tgt := 16) dX25_isNone_12 (by decide) ?_
    refine nd_ireturn hC rfl (by first | rfl | exact nd_b_nar _) (by omega) (by omega) dX25_isNone_16 (hk)
theorem be_foldX34 (hg : nd_OK g) (hd : 1 ≤ d) {b bb : Nat} {fw : Int32} {mo : Int64} {x3 x4 x5 x6 x7 x8 : Value} {bf : Nat → Int32} {k : Nat} (hk9 : k < 2147483648) (hb : h[b]? = some (.inr (nX34, [.ref bb, .int fw, .long mo, x3, x4, x5, x6, x7, x8]))) (hB : h[bb]? = some (.inl (0, 5, .inl bf))) (h5 : mo ≠ be_min → nI k < fw → k < 5) (hk : K (.inl (some (.int (be_fold mo fw bf k)))) h) : nd_M g mX25_fold d 0 0 [.ref b, .int (nI k)] h K := by
  unfold be_fold at hk
  refine nd_enter hg (by decide) rfl (Nat.le_of_ble_eq_true rfl) (fun X hC => ?_)
  refine nd_aload_n hC dX25_fold_0 rfl rfl ?_
  refine nd_callU (mm2 := mX25_isNone) (As := []) (mc2 := 0) (ms2 := 0) (d2 := d - 1) (owner := "NapkinDeeds$Best") (x := ⟨"NapkinDeeds$Best", "isNone", "()Z"⟩) (n := 0) hC rfl (va_cwU 0 hC.hts (lw_U q1033 q1035 q1036 q1034 q201 q1043) rfl rfl rfl rfl ⟨by decide, by decide, by decide +kernel⟩ (nd_roomR (by omega) (by decide))) hb rfl (by decide) (by omega) rfl (by exact Nat.le_of_ble_eq_true rfl) (by omega) (by omega) dX25_fold_1 rfl (be_isNoneX34 hg hb ?_)
  first | with_reducible refine nd_if_neB hC (tgt := 24) dX25_fold_4 (by decide) (fun hc => ?_) (fun hc => ?_) | with_reducible refine nd_if_neN hC (tgt := 24) (by omega) dX25_fold_4 (by decide) (fun hc => ?_) (fun hc => ?_) | refine nd_if_ne hC (tgt := 24) dX25_fold_4 (by decide) (fun hc => ?_) (fun hc => ?_)
  · rw [if_pos (of_decide_eq_true hc)] at hk
    refine nd_iconst hC (v := -1) rfl dX25_fold_24 ?_
    refine nd_ireturn hC rfl (by first | rfl | exact nd_b_nar _) (by omega) (by omega) dX25_fold_25 (hk)
  · have hc := of_decide_eq_false hc
    rw [if_neg hc] at hk
    refine nd_iload_n hC dX25_fold_7 rfl ?_
    refine nd_aload_n hC dX25_fold_8 rfl rfl ?_
    refine nd_get (ci := nX34) hC in_X34 rfl hb 1 (by decide) q777 (fun _ z => z) rfl dX25_fold_9 ?_
    refine nd_icmp_ge hC (tgt := 24) dX25_fold_12 (by decide) (fun hq => ?_) (fun hq => ?_)
    · rw [if_neg (Int32.not_lt.mpr hq)] at hk
      refine nd_iconst hC (v := -1) rfl dX25_fold_24 ?_
      refine nd_ireturn hC rfl (by first | rfl | exact nd_b_nar _) (by omega) (by omega) dX25_fold_25 (hk)
    · have hq := Int32.not_le.mp hq
      rw [if_pos hq] at hk
      have := h5 hc hq
      refine nd_aload_n hC dX25_fold_15 rfl rfl ?_
      refine nd_get (ci := nX34) hC in_X34 rfl hb 0 (by decide) q776 (fun _ z => z) rfl dX25_fold_16 ?_
      refine nd_iload_n hC dX25_fold_19 rfl ?_
      refine nd_ialoadN hC hB (by omega) (by omega) dX25_fold_20 ?_
      refine nd_goto hC (tgt := 25) dX25_fold_21 (by decide) ?_
      refine nd_ireturn hC rfl (by first | rfl | exact nd_b_nar _) (by omega) (by omega) dX25_fold_25 (hk)
theorem be_fewX34 (hg : nd_OK g) {b bb : Nat} {fw : Int32} {mo : Int64} {x3 x4 x5 x6 x7 x8 : Value} (hb : h[b]? = some (.inr (nX34, [.ref bb, .int fw, .long mo, x3, x4, x5, x6, x7, x8]))) (hk : K (.inl (some (.int fw))) h) : nd_M g mX26_fewestFolds d 0 0 [.ref b] h K := by
  refine nd_enter hg (by decide) rfl (Nat.le_of_ble_eq_true rfl) (fun X hC => ?_)
  refine nd_aload_n hC dX26_fewestFolds_0 rfl rfl ?_
  refine nd_getN (ci := nX34) hC in_X34 rfl hb 1 (by decide) q778 (fun _ z => z) rfl dX26_fewestFolds_1 ?_
  refine nd_ireturn hC rfl (by first | rfl | exact nd_b_nar _) (by omega) (by omega) dX26_fewestFolds_4 (hk)
theorem be_tellsX34 (hg : nd_OK g) (hd : 2 ≤ d) {b bb : Nat} {fw : Int32} {mo : Int64} {x3 x4 x5 x6 x7 x8 : Value} {bf : Nat → Int32} {what : Nat} (hw : what = 0 ∨ 10 ≤ what ∧ what < 15) (hb : h[b]? = some (.inr (nX34, [.ref bb, .int fw, .long mo, x3, x4, x5, x6, x7, x8]))) (hB : h[bb]? = some (.inl (0, 5, .inl bf))) (hk : K (.inl (some (.int (be_tell mo fw bf what)))) h) : nd_M g mX26_tells d 0 0 [.ref b, .int (nI what)] h K := by
  unfold be_tell at hk
  refine nd_enter hg (by decide) rfl (Nat.le_of_ble_eq_true rfl) (fun X hC => ?_)
  refine nd_iload_n hC dX26_tells_0 rfl ?_
  first | with_reducible refine nd_if_neB hC (tgt := 22) dX26_tells_1 (by decide) (fun hc => ?_) (fun hc => ?_) | with_reducible refine nd_if_neN hC (tgt := 22) (by omega) dX26_tells_1 (by decide) (fun hc => ?_) (fun hc => ?_) | refine nd_if_ne hC (tgt := 22) dX26_tells_1 (by decide) (fun hc => ?_) (fun hc => ?_)
  · rw [if_neg hc] at hk
    refine nd_aload_n hC dX26_tells_22 rfl rfl ?_
    refine nd_iload_n hC dX26_tells_23 rfl ?_
    refine nd_bipush hC (v := nI 10) (by rfl) dX26_tells_24 ?_
    first | with_reducible refine nd_isubN hC (by omega) dX26_tells_26 ?_ | refine nd_isub hC dX26_tells_26 ?_
    refine nd_callU (mm2 := mX25_fold) (As := [_]) (mc2 := 0) (ms2 := 0) (d2 := d - 1) (owner := "NapkinDeeds$Best") (x := ⟨"NapkinDeeds$Fewest", "fold", "(I)I"⟩) (n := 1) hC rfl (va_cwU 1 hC.hts (lw_U q2243 q2244 q2246 q1023 q201 q1032) rfl rfl rfl rfl ⟨by decide, by decide, by decide +kernel⟩ (nd_roomR (by omega) (by decide))) hb rfl (by decide) (by omega) rfl (by exact Nat.le_of_ble_eq_true rfl) (by omega) (by omega) dX26_tells_27 rfl (be_foldX34 hg (by omega) (by omega) hb hB (fun _ _ => by omega) ?_)
    refine nd_ireturn hC rfl (by first | rfl | exact nd_b_nar _) (by omega) (by omega) dX26_tells_30 (hk)
  · rw [if_pos hc] at hk
    refine nd_aload_n hC dX26_tells_4 rfl rfl ?_
    refine nd_callU (mm2 := mX25_isNone) (As := []) (mc2 := 0) (ms2 := 0) (d2 := d - 1) (owner := "NapkinDeeds$Best") (x := ⟨"NapkinDeeds$Fewest", "isNone", "()Z"⟩) (n := 0) hC rfl (va_cwU 0 hC.hts (lw_U q2228 q2229 q2231 q1034 q201 q1043) rfl rfl rfl rfl ⟨by decide, by decide, by decide +kernel⟩ (nd_roomR (by omega) (by decide))) hb rfl (by decide) (by omega) rfl (by exact Nat.le_of_ble_eq_true rfl) (by omega) (by omega) dX26_tells_5 rfl (be_isNoneX34 hg hb ?_)
    first | with_reducible refine nd_if_eqB hC (tgt := 15) dX26_tells_8 (by decide) (fun hq => ?_) (fun hq => ?_) | with_reducible refine nd_if_eqN hC (tgt := 15) (by omega) dX26_tells_8 (by decide) (fun hq => ?_) (fun hq => ?_) | refine nd_if_eq hC (tgt := 15) dX26_tells_8 (by decide) (fun hq => ?_) (fun hq => ?_)
    · rw [if_neg (of_decide_eq_false hq)] at hk
      refine nd_aload_n hC dX26_tells_15 rfl rfl ?_
      refine nd_callU (mm2 := mX26_fewestFolds) (As := []) (mc2 := 0) (ms2 := 0) (d2 := d - 1) (owner := "NapkinDeeds$Fewest") (x := ⟨"NapkinDeeds$Fewest", "fewestFolds", "()I"⟩) (n := 0) hC rfl (va_cwU 0 hC.hts (lw_U q2235 q2237 q2238 q2236 q202 q2242) rfl rfl rfl rfl ⟨by decide, by decide, by decide +kernel⟩ (nd_roomR (by omega) (by decide))) hb rfl (by decide) (by omega) rfl (by exact Nat.le_of_ble_eq_true rfl) (by omega) (by omega) dX26_tells_16 rfl (be_fewX34 hg hb ?_)
      refine nd_goto hC (tgt := 30) dX26_tells_19 (by decide) ?_
      refine nd_ireturn hC rfl (by first | rfl | exact nd_b_nar _) (by omega) (by omega) dX26_tells_30 (hk)
    · rw [if_pos (of_decide_eq_true hq)] at hk
      refine nd_iconst hC (v := -1) rfl dX26_tells_11 ?_
      refine nd_goto hC (tgt := 30) dX26_tells_12 (by decide) ?_
      refine nd_ireturn hC rfl (by first | rfl | exact nd_b_nar _) (by omega) (by omega) dX26_tells_30 (hk)
theorem be_isNoneX29 (hg : nd_OK g) {b bb : Nat} {fw : Int32} {mo : Int64} {x3 x4 x5 x6 : Value} (hb : h[b]? = some (.inr (nX29, [.ref bb, .int fw, .long mo, x3, x4, x5, x6]))) (hk : K (.inl (some (.int (nd_b (decide (mo = be_min)))))) h) : nd_M g mX25_isNone d 0 0 [.ref b] h K := by
  refine nd_enter hg (by decide) rfl (Nat.le_of_ble_eq_true rfl) (fun X hC => ?_)
  refine nd_aload_n hC dX25_isNone_0 rfl rfl ?_
  refine nd_get (ci := nX29) hC in_X29 rfl hb 2 (by decide) q780 (fun _ z => z) rfl dX25_isNone_1 ?_
  refine nd_ldc2 hC q774 dX25_isNone_4 ?_
  refine nd_lcmp_ne hC (tgt := 15) dX25_isNone_7 dX25_isNone_8 (by decide) (fun hc => ?_) (fun hc => ?_)
  · rw [decide_eq_false (show ¬ mo = be_min from hc)] at hk
    refine nd_iconst hC (v := nI 0) (by rfl) dX25_isNone_15 ?_
    refine nd_ireturn hC rfl (by first | rfl | exact nd_b_nar _) (by omega) (by omega) dX25_isNone_16 (hk)
  · rw [decide_eq_true (show mo = be_min from hc)] at hk
    refine nd_iconst hC (v := nI 1) (by rfl) dX25_isNone_11 ?_
    refine nd_goto hC (tgt := 16) dX25_isNone_12 (by decide) ?_
    refine nd_ireturn hC rfl (by first | rfl | exact nd_b_nar _) (by omega) (by omega) dX25_isNone_16 (hk)
theorem be_foldX29 (hg : nd_OK g) (hd : 1 ≤ d) {b bb : Nat} {fw : Int32} {mo : Int64} {x3 x4 x5 x6 : Value} {bf : Nat → Int32} {k : Nat} (hk9 : k < 2147483648) (hb : h[b]? = some (.inr (nX29, [.ref bb, .int fw, .long mo, x3, x4, x5, x6]))) (hB : h[bb]? = some (.inl (0, 5, .inl bf))) (h5 : mo ≠ be_min → nI k < fw → k < 5) (hk : K (.inl (some (.int (be_fold mo fw bf k)))) h) : nd_M g mX25_fold d 0 0 [.ref b, .int (nI k)] h K := by
  unfold be_fold at hk
  refine nd_enter hg (by decide) rfl (Nat.le_of_ble_eq_true rfl) (fun X hC => ?_)
  refine nd_aload_n hC dX25_fold_0 rfl rfl ?_
  refine nd_callU (mm2 := mX25_isNone) (As := []) (mc2 := 0) (ms2 := 0) (d2 := d - 1) (owner := "NapkinDeeds$Best") (x := ⟨"NapkinDeeds$Best", "isNone", "()Z"⟩) (n := 0) hC rfl (va_cwU 0 hC.hts (lw_U q1033 q1035 q1040 q1034 q201 q1043) rfl rfl rfl rfl ⟨by decide, by decide, by decide +kernel⟩ (nd_roomR (by omega) (by decide))) hb rfl (by decide) (by omega) rfl (by exact Nat.le_of_ble_eq_true rfl) (by omega) (by omega) dX25_fold_1 rfl (be_isNoneX29 hg hb ?_)
  first | with_reducible refine nd_if_neB hC (tgt := 24) dX25_fold_4 (by decide) (fun hc => ?_) (fun hc => ?_) | with_reducible refine nd_if_neN hC (tgt := 24) (by omega) dX25_fold_4 (by decide) (fun hc => ?_) (fun hc => ?_) | refine nd_if_ne hC (tgt := 24) dX25_fold_4 (by decide) (fun hc => ?_) (fun hc => ?_)
  · rw [if_pos (of_decide_eq_true hc)] at hk
    refine nd_iconst hC (v := -1) rfl dX25_fold_24 ?_
    refine nd_ireturn hC rfl (by first | rfl | exact nd_b_nar _) (by omega) (by omega) dX25_fold_25 (hk)
  · have hc := of_decide_eq_false hc
    rw [if_neg hc] at hk
    refine nd_iload_n hC dX25_fold_7 rfl ?_
    refine nd_aload_n hC dX25_fold_8 rfl rfl ?_
    refine nd_get (ci := nX29) hC in_X29 rfl hb 1 (by decide) q777 (fun _ z => z) rfl dX25_fold_9 ?_
    refine nd_icmp_ge hC (tgt := 24) dX25_fold_12 (by decide) (fun hq => ?_) (fun hq => ?_)
    · rw [if_neg (Int32.not_lt.mpr hq)] at hk
      refine nd_iconst hC (v := -1) rfl dX25_fold_24 ?_
      refine nd_ireturn hC rfl (by first | rfl | exact nd_b_nar _) (by omega) (by omega) dX25_fold_25 (hk)
    · have hq := Int32.not_le.mp hq
      rw [if_pos hq] at hk
      have := h5 hc hq
      refine nd_aload_n hC dX25_fold_15 rfl rfl ?_
      refine nd_get (ci := nX29) hC in_X29 rfl hb 0 (by decide) q776 (fun _ z => z) rfl dX25_fold_16 ?_
      refine nd_iload_n hC dX25_fold_19 rfl ?_
      refine nd_ialoadN hC hB (by omega) (by omega) dX25_fold_20 ?_
      refine nd_goto hC (tgt := 25) dX25_fold_21 (by decide) ?_
      refine nd_ireturn hC rfl (by first | rfl | exact nd_b_nar _) (by omega) (by omega) dX25_fold_25 (hk)
theorem be_isNoneX36 (hg : nd_OK g) {b bb : Nat} {fw : Int32} {mo : Int64} {x3 x4 x5 x6 : Value} (hb : h[b]? = some (.inr (nX36, [.ref bb, .int fw, .long mo, x3, x4, x5, x6]))) (hk : K (.inl (some (.int (nd_b (decide (mo = be_min)))))) h) : nd_M g mX25_isNone d 0 0 [.ref b] h K := by
  refine nd_enter hg (by decide) rfl (Nat.le_of_ble_eq_true rfl) (fun X hC => ?_)
  refine nd_aload_n hC dX25_isNone_0 rfl rfl ?_
  refine nd_get (ci := nX36) hC in_X36 rfl hb 2 (by decide) q780 (fun _ z => z) rfl dX25_isNone_1 ?_
  refine nd_ldc2 hC q774 dX25_isNone_4 ?_
  refine nd_lcmp_ne hC (tgt := 15) dX25_isNone_7 dX25_isNone_8 (by decide) (fun hc => ?_) (fun hc => ?_)
  · rw [decide_eq_false (show ¬ mo = be_min from hc)] at hk
    refine nd_iconst hC (v := nI 0) (by rfl) dX25_isNone_15 ?_
    refine nd_ireturn hC rfl (by first | rfl | exact nd_b_nar _) (by omega) (by omega) dX25_isNone_16 (hk)
  · rw [decide_eq_true (show mo = be_min from hc)] at hk
    refine nd_iconst hC (v := nI 1) (by rfl) dX25_isNone_11 ?_
    refine nd_goto hC (tgt := 16) dX25_isNone_12 (by decide) ?_
    refine nd_ireturn hC rfl (by first | rfl | exact nd_b_nar _) (by omega) (by omega) dX25_isNone_16 (hk)
theorem be_foldX36 (hg : nd_OK g) (hd : 1 ≤ d) {b bb : Nat} {fw : Int32} {mo : Int64} {x3 x4 x5 x6 : Value} {bf : Nat → Int32} {k : Nat} (hk9 : k < 2147483648) (hb : h[b]? = some (.inr (nX36, [.ref bb, .int fw, .long mo, x3, x4, x5, x6]))) (hB : h[bb]? = some (.inl (0, 5, .inl bf))) (h5 : mo ≠ be_min → nI k < fw → k < 5) (hk : K (.inl (some (.int (be_fold mo fw bf k)))) h) : nd_M g mX25_fold d 0 0 [.ref b, .int (nI k)] h K := by
  unfold be_fold at hk
  refine nd_enter hg (by decide) rfl (Nat.le_of_ble_eq_true rfl) (fun X hC => ?_)
  refine nd_aload_n hC dX25_fold_0 rfl rfl ?_
  refine nd_callU (mm2 := mX25_isNone) (As := []) (mc2 := 0) (ms2 := 0) (d2 := d - 1) (owner := "NapkinDeeds$Best") (x := ⟨"NapkinDeeds$Best", "isNone", "()Z"⟩) (n := 0) hC rfl (va_cwU 0 hC.hts (lw_U q1033 q1035 q1037 q1034 q201 q1043) rfl rfl rfl rfl ⟨by decide, by decide, by decide +kernel⟩ (nd_roomR (by omega) (by decide))) hb rfl (by decide) (by omega) rfl (by exact Nat.le_of_ble_eq_true rfl) (by omega) (by omega) dX25_fold_1 rfl (be_isNoneX36 hg hb ?_)
  first | with_reducible refine nd_if_neB hC (tgt := 24) dX25_fold_4 (by decide) (fun hc => ?_) (fun hc => ?_) | with_reducible refine nd_if_neN hC (tgt := 24) (by omega) dX25_fold_4 (by decide) (fun hc => ?_) (fun hc => ?_) | refine nd_if_ne hC (tgt := 24) dX25_fold_4 (by decide) (fun hc => ?_) (fun hc => ?_)
  · rw [if_pos (of_decide_eq_true hc)] at hk
    refine nd_iconst hC (v := -1) rfl dX25_fold_24 ?_
    refine nd_ireturn hC rfl (by first | rfl | exact nd_b_nar _) (by omega) (by omega) dX25_fold_25 (hk)
  · have hc := of_decide_eq_false hc
    rw [if_neg hc] at hk
    refine nd_iload_n hC dX25_fold_7 rfl ?_
    refine nd_aload_n hC dX25_fold_8 rfl rfl ?_
    refine nd_get (ci := nX36) hC in_X36 rfl hb 1 (by decide) q777 (fun _ z => z) rfl dX25_fold_9 ?_
    refine nd_icmp_ge hC (tgt := 24) dX25_fold_12 (by decide) (fun hq => ?_) (fun hq => ?_)
    · rw [if_neg (Int32.not_lt.mpr hq)] at hk
      refine nd_iconst hC (v := -1) rfl dX25_fold_24 ?_
      refine nd_ireturn hC rfl (by first | rfl | exact nd_b_nar _) (by omega) (by omega) dX25_fold_25 (hk)
    · have hq := Int32.not_le.mp hq
      rw [if_pos hq] at hk
      have := h5 hc hq
      refine nd_aload_n hC dX25_fold_15 rfl rfl ?_
      refine nd_get (ci := nX36) hC in_X36 rfl hb 0 (by decide) q776 (fun _ z => z) rfl dX25_fold_16 ?_
      refine nd_iload_n hC dX25_fold_19 rfl ?_
      refine nd_ialoadN hC hB (by omega) (by omega) dX25_fold_20 ?_
      refine nd_goto hC (tgt := 25) dX25_fold_21 (by decide) ?_
      refine nd_ireturn hC rfl (by first | rfl | exact nd_b_nar _) (by omega) (by omega) dX25_fold_25 (hk)
theorem be_isNoneX38 (hg : nd_OK g) {b bb : Nat} {fw : Int32} {mo : Int64} {x3 x4 x5 x6 x7 : Value} (hb : h[b]? = some (.inr (nX38, [.ref bb, .int fw, .long mo, x3, x4, x5, x6, x7]))) (hk : K (.inl (some (.int (nd_b (decide (mo = be_min)))))) h) : nd_M g mX25_isNone d 0 0 [.ref b] h K := by
  refine nd_enter hg (by decide) rfl (Nat.le_of_ble_eq_true rfl) (fun X hC => ?_)
  refine nd_aload_n hC dX25_isNone_0 rfl rfl ?_
  refine nd_get (ci := nX38) hC in_X38 rfl hb 2 (by decide) q780 (fun _ z => z) rfl dX25_isNone_1 ?_
  refine nd_ldc2 hC q774 dX25_isNone_4 ?_
  refine nd_lcmp_ne hC (tgt := 15) dX25_isNone_7 dX25_isNone_8 (by decide) (fun hc => ?_) (fun hc => ?_)
  · rw [decide_eq_false (show ¬ mo = be_min from hc)] at hk
    refine nd_iconst hC (v := nI 0) (by rfl) dX25_isNone_15 ?_
    refine nd_ireturn hC rfl (by first | rfl | exact nd_b_nar _) (by omega) (by omega) dX25_isNone_16 (hk)
  · rw [decide_eq_true (show mo = be_min from hc)] at hk
    refine nd_iconst hC (v := nI 1) (by rfl) dX25_isNone_11 ?_
    refine nd_goto hC (tgt := 16) dX25_isNone_12 (by decide) ?_
    refine nd_ireturn hC rfl (by first | rfl | exact nd_b_nar _) (by omega) (by omega) dX25_isNone_16 (hk)
theorem be_foldX38 (hg : nd_OK g) (hd : 1 ≤ d) {b bb : Nat} {fw : Int32} {mo : Int64} {x3 x4 x5 x6 x7 : Value} {bf : Nat → Int32} {k : Nat} (hk9 : k < 2147483648) (hb : h[b]? = some (.inr (nX38, [.ref bb, .int fw, .long mo, x3, x4, x5, x6, x7]))) (hB : h[bb]? = some (.inl (0, 5, .inl bf))) (h5 : mo ≠ be_min → nI k < fw → k < 5) (hk : K (.inl (some (.int (be_fold mo fw bf k)))) h) : nd_M g mX25_fold d 0 0 [.ref b, .int (nI k)] h K := by
  unfold be_fold at hk
  refine nd_enter hg (by decide) rfl (Nat.le_of_ble_eq_true rfl) (fun X hC => ?_)
  refine nd_aload_n hC dX25_fold_0 rfl rfl ?_
  refine nd_callU (mm2 := mX25_isNone) (As := []) (mc2 := 0) (ms2 := 0) (d2 := d - 1) (owner := "NapkinDeeds$Best") (x := ⟨"NapkinDeeds$Best", "isNone", "()Z"⟩) (n := 0) hC rfl (va_cwU 0 hC.hts (lw_U q1033 q1035 q1038 q1034 q201 q1043) rfl rfl rfl rfl ⟨by decide, by decide, by decide +kernel⟩ (nd_roomR (by omega) (by decide))) hb rfl (by decide) (by omega) rfl (by exact Nat.le_of_ble_eq_true rfl) (by omega) (by omega) dX25_fold_1 rfl (be_isNoneX38 hg hb ?_)
  first | with_reducible refine nd_if_neB hC (tgt := 24) dX25_fold_4 (by decide) (fun hc => ?_) (fun hc => ?_) | with_reducible refine nd_if_neN hC (tgt := 24) (by omega) dX25_fold_4 (by decide) (fun hc => ?_) (fun hc => ?_) | refine nd_if_ne hC (tgt := 24) dX25_fold_4 (by decide) (fun hc => ?_) (fun hc => ?_)
  · rw [if_pos (of_decide_eq_true hc)] at hk
    refine nd_iconst hC (v := -1) rfl dX25_fold_24 ?_
    refine nd_ireturn hC rfl (by first | rfl | exact nd_b_nar _) (by omega) (by omega) dX25_fold_25 (hk)
  · have hc := of_decide_eq_false hc
    rw [if_neg hc] at hk
    refine nd_iload_n hC dX25_fold_7 rfl ?_
    refine nd_aload_n hC dX25_fold_8 rfl rfl ?_
    refine nd_get (ci := nX38) hC in_X38 rfl hb 1 (by decide) q777 (fun _ z => z) rfl dX25_fold_9 ?_
    refine nd_icmp_ge hC (tgt := 24) dX25_fold_12 (by decide) (fun hq => ?_) (fun hq => ?_)
    · rw [if_neg (Int32.not_lt.mpr hq)] at hk
      refine nd_iconst hC (v := -1) rfl dX25_fold_24 ?_
      refine nd_ireturn hC rfl (by first | rfl | exact nd_b_nar _) (by omega) (by omega) dX25_fold_25 (hk)
    · have hq := Int32.not_le.mp hq
      rw [if_pos hq] at hk
      have := h5 hc hq
      refine nd_aload_n hC dX25_fold_15 rfl rfl ?_
      refine nd_get (ci := nX38) hC in_X38 rfl hb 0 (by decide) q776 (fun _ z => z) rfl dX25_fold_16 ?_
      refine nd_iload_n hC dX25_fold_19 rfl ?_
      refine nd_ialoadN hC hB (by omega) (by omega) dX25_fold_20 ?_
      refine nd_goto hC (tgt := 25) dX25_fold_21 (by decide) ?_
      refine nd_ireturn hC rfl (by first | rfl | exact nd_b_nar _) (by omega) (by omega) dX25_fold_25 (hk)
end BR86

